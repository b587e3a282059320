/-! ===== the twin: acts, the image ===== -/
set_option maxRecDepth 100000
set_option maxHeartbeats 4000000 in
theorem c_X4_isUnder {E : ZE} {n : Nat} {T : ZT} {I : ZI} {L : ZL} {R : ZR} {kd k : Int32} : zM E yX4_isUnder cX4_isUnder 2 (some (Jvm.ClassFile.FieldType.boolean)) 0 0 0 [.int kd, .int k] n T I L R (zis (some (.int (zb (underB kd k)))) n T I L R) := by
  refine zM.of (lv0 := [some (.int kd), some (.int k)]) pn_X4 (Nat.le_of_ble_eq_true rfl) rfl fun G g r hin hlt hbn => ?_
  have g : zGd E G cX4_isUnder RX4 2 0 0 0 := g
  refine z_il1 g dX4_isUnder_0 ?_
  refine z_if_eq (tgt := 25) g dX4_isUnder_1 (by decide) (fun c1 => ?_) (fun c1 => ?_)
  · skip
    refine z_iconst g dX4_isUnder_25 zki_1 ?_
    refine z_goto (tgt := 30) g dX4_isUnder_26 (by decide) ?_
    refine z_zret g r (by omega) (by omega) zfit_1.1 dX4_isUnder_30 ?_
    exact ⟨by first | (simp [underB, zb, *]; done) | (simp_all [underB, zb]; done), rfl, rfl, rfl, rfl, rfl⟩
  · skip
    refine z_il1 g dX4_isUnder_4 ?_
    refine z_il0 g dX4_isUnder_5 ?_
    refine z_icmp_eq (tgt := 25) g dX4_isUnder_6 (by decide) (fun c6 => ?_) (fun c6 => ?_)
    · skip
      refine z_iconst g dX4_isUnder_25 zki_1 ?_
      refine z_goto (tgt := 30) g dX4_isUnder_26 (by decide) ?_
      refine z_zret g r (by omega) (by omega) zfit_1.1 dX4_isUnder_30 ?_
      exact ⟨by first | (simp [underB, zb, *]; done) | (simp_all [underB, zb]; done), rfl, rfl, rfl, rfl, rfl⟩
    · skip
      refine z_il1 g dX4_isUnder_9 ?_
      refine z_if_le (tgt := 29) g dX4_isUnder_10 (by decide) (fun c10 => ?_) (fun c10 => ?_)
      · skip
        have c10 := Int32.not_lt.mpr c10
        refine z_iconst g dX4_isUnder_29 zki_0 ?_
        refine z_zret g r (by omega) (by omega) zfit_0.1 dX4_isUnder_30 ?_
        exact ⟨by first | (simp [underB, zb, *]; done) | (simp_all [underB, zb]; done), rfl, rfl, rfl, rfl, rfl⟩
      · skip
        have c10 := Int32.not_le.mp c10
        refine z_il1 g dX4_isUnder_13 ?_
        refine z_iconst g dX4_isUnder_14 zki_4 ?_
        refine z_icmp_ge (tgt := 29) g dX4_isUnder_15 (by decide) (fun c15 => ?_) (fun c15 => ?_)
        · skip
          have c15 := Int32.not_lt.mpr c15
          refine z_iconst g dX4_isUnder_29 zki_0 ?_
          refine z_zret g r (by omega) (by omega) zfit_0.1 dX4_isUnder_30 ?_
          exact ⟨by first | (simp [underB, zb, *]; done) | (simp_all [underB, zb]; done), rfl, rfl, rfl, rfl, rfl⟩
        · skip
          have c15 := Int32.not_le.mp c15
          refine z_il0 g dX4_isUnder_18 ?_
          refine z_il1 g dX4_isUnder_19 ?_
          refine z_iconst g dX4_isUnder_20 zki_3 ?_
          first | with_reducible refine z_iaddN g dX4_isUnder_21 ?_ | refine z_iadd g dX4_isUnder_21 ?_
          refine z_icmp_ne (tgt := 29) g dX4_isUnder_22 (by decide) (fun c22 => ?_) (fun c22 => ?_)
          · skip
            refine z_iconst g dX4_isUnder_29 zki_0 ?_
            refine z_zret g r (by omega) (by omega) zfit_0.1 dX4_isUnder_30 ?_
            exact ⟨by first | (simp [underB, zb, *]; done) | (simp_all [underB, zb]; done), rfl, rfl, rfl, rfl, rfl⟩
          · skip
            refine z_iconst g dX4_isUnder_25 zki_1 ?_
            refine z_goto (tgt := 30) g dX4_isUnder_26 (by decide) ?_
            refine z_zret g r (by omega) (by omega) zfit_1.1 dX4_isUnder_30 ?_
            exact ⟨by first | (simp [underB, zb, *]; done) | (simp_all [underB, zb]; done), rfl, rfl, rfl, rfl, rfl⟩

set_option maxHeartbeats 4000000 in
theorem c_X4_ranBody {E : ZE} {n : Nat} {T : ZT} {I : ZI} {L : ZL} {R : ZR} {t : Nat} (hL : TL T R t) {s : RS} {b : Nat} (hb : b < 100) (hr : s.1 < 1000) : zM E yX4_ranBody cX4_ranBody 2 none 0 0 0 [.ref t, .int (nI b)] n T (mA t I s) L R (zis none n T (mA t I (rbF b s)) L R) := by
  refine zM.of (lv0 := [some (.ref t), some (.int (nI b))]) pn_X4 (Nat.le_of_ble_eq_true rfl) rfl fun G g r hin hlt hbn => ?_
  have g : zGd E G cX4_ranBody RX4 2 0 0 0 := g
  have hL0 := hL
  obtain ⟨hT, h1, ht1, h2, ht2, h3, ht3, h10, ht4, h11, ht5, ht6, ht7, h16, ht8, h17, ht9, h19, ht10⟩ := hL0
  refine z_al0 g dX4_ranBody_0 ?_
  refine zg4_20 g q1262 (Or.inl rfl) (by assumption) dX4_ranBody_1 ?_
  refine z_bipush g dX4_ranBody_4 zkb_20 ?_
  refine z_icmp_ge (tgt := 19) g dX4_ranBody_6 (by decide) (fun c6 => ?_) (fun c6 => ?_)
  · skip
    rw [mA_20] at c6
    have hs : ¬ s.1 < 20 := fun q => nI_ge q (by decide) c6
    refine z_al0 g dX4_ranBody_19 ?_
    refine z_dup g dX4_ranBody_20 rfl ?_
    refine zg4_20 g q1262 (Or.inl rfl) (by assumption) dX4_ranBody_21 ?_
    first
      | refine z_top (show _ = nI s.1 from mA_20) ?_
      | refine z_top (show _ = nI s.1 from by rw [zp_n (show t ≠ t + 10 by omega)]; exact mA_20) ?_
    refine z_iconst g dX4_ranBody_24 zki_1 ?_
    first | with_reducible refine z_iaddN g dX4_ranBody_25 ?_ | refine z_iadd g dX4_ranBody_25 ?_
    refine zs4_20 g q1262 (Or.inl rfl) (by assumption) dX4_ranBody_26 ?_
    refine z_vret g r (by omega) (by omega) dX4_ranBody_29 ?_
    refine ⟨rfl, rfl, rfl, ?_, rfl, rfl⟩
    first
      | (rw [show mA t I (rbF b s) = _ from mA_up.symm, show (rbF b s).2 = zp s.2 s.1 (nI b) from if_pos hs, mA_b, zp_n (show t ≠ t + 10 by omega)]; rfl)
      | (rw [show mA t I (rbF b s) = _ from mA_up.symm, show (rbF b s).2 = s.2 from if_neg hs, ← mA_b (t := t) (I := I) (s := s), zp_self]; rfl)
  · skip
    rw [mA_20] at c6
    have hs : s.1 < 20 := Nat.lt_of_not_le fun q => c6 (nI_le q (by omega))
    refine z_al0 g dX4_ranBody_9 ?_
    refine zg4_19 g q1261 (Or.inl rfl) (by assumption) dX4_ranBody_10 (by assumption) ?_
    refine z_al0 g dX4_ranBody_13 ?_
    refine zg4_20 g q1262 (Or.inl rfl) (by assumption) dX4_ranBody_14 ?_
    refine z_top (show _ = nI s.1 from mA_20) ?_
    refine z_il1 g dX4_ranBody_17 ?_
    refine z_iast (k := 0) g rfl (by decide) (by assumption) (by omega) (by omega) dX4_ranBody_18 ?_
    refine z_al0 g dX4_ranBody_19 ?_
    refine z_dup g dX4_ranBody_20 rfl ?_
    refine zg4_20 g q1262 (Or.inl rfl) (by assumption) dX4_ranBody_21 ?_
    first
      | refine z_top (show _ = nI s.1 from mA_20) ?_
      | refine z_top (show _ = nI s.1 from by rw [zp_n (show t ≠ t + 10 by omega)]; exact mA_20) ?_
    refine z_iconst g dX4_ranBody_24 zki_1 ?_
    first | with_reducible refine z_iaddN g dX4_ranBody_25 ?_ | refine z_iadd g dX4_ranBody_25 ?_
    refine zs4_20 g q1262 (Or.inl rfl) (by assumption) dX4_ranBody_26 ?_
    refine z_vret g r (by omega) (by omega) dX4_ranBody_29 ?_
    refine ⟨rfl, rfl, rfl, ?_, rfl, rfl⟩
    first
      | (rw [show mA t I (rbF b s) = _ from mA_up.symm, show (rbF b s).2 = zp s.2 s.1 (nI b) from if_pos hs, mA_b, zp_n (show t ≠ t + 10 by omega)]; rfl)
      | (rw [show mA t I (rbF b s) = _ from mA_up.symm, show (rbF b s).2 = s.2 from if_neg hs, ← mA_b (t := t) (I := I) (s := s), zp_self]; rfl)

set_option maxHeartbeats 4000000 in
theorem c_X4_plainMoves {E : ZE} {n : Nat} {T : ZT} {I : ZI} {L : ZL} {R : ZR} {t : Nat} (hL : TL T R t) {s : RS} {x : Int32} (hr : s.1 < 900) : zM E yX4_plainMoves cX4_plainMoves 2 (some (Jvm.ClassFile.FieldType.int)) 1 0 0 [.ref t, .int x] n T (mA t I s) L R (zis (some (.int (pmF (I t 22) x s).1)) n T (mA t I (pmF (I t 22) x s).2) L R) := by
  refine zM.of (lv0 := [some (.ref t), some (.int x)]) pn_X4 (Nat.le_of_ble_eq_true rfl) rfl fun G g r hin hlt hbn => ?_
  have g : zGd E G cX4_plainMoves RX4 2 1 0 0 := g
  have hL0 := hL
  obtain ⟨hT, h1, ht1, h2, ht2, h3, ht3, h10, ht4, h11, ht5, ht6, ht7, h16, ht8, h17, ht9, h19, ht10⟩ := hL0
  refine z_al0 g dX4_plainMoves_0 ?_
  refine z_iconst g dX4_plainMoves_1 zki_1 ?_
  refine z_callV1 g ck_X4_ranBody q1638 q1640 qs74 cls4 (by assumption) (c_X4_ranBody hL (by omega) (by have h := hr; first | exact Nat.lt_of_lt_of_le h (by decide) | exact Nat.lt_of_lt_of_le (Nat.succ_lt_succ h) (by decide))) rfl (Nat.le_of_ble_eq_true rfl) (by omega) (by omega) (by omega) dX4_plainMoves_2 (z_ans0 ?_)
  refine z_il1 g dX4_plainMoves_5 ?_
  refine z_al0 g dX4_plainMoves_6 ?_
  refine zg4_22 g q1264 (Or.inl rfl) (by assumption) dX4_plainMoves_7 ?_
  rw [mA_f (by decide)]
  first | with_reducible refine z_iaddN g dX4_plainMoves_10 ?_ | refine z_iadd g dX4_plainMoves_10 ?_
  refine z_iret g r (by omega) (by omega) dX4_plainMoves_11 ?_
  exact ⟨(by unfold pmF; first | rfl | (rw [if_pos c8]; done) | (rw [if_pos (by simp [c8])]; done) | (rw [if_neg c8, if_pos c30]; done) | (rw [if_neg c8, if_pos c31]; done) | (rw [if_neg c8, if_neg c30]; done) | (rw [if_neg c8, if_neg c31]; done) | (rw [if_neg (by simp [c8]), if_pos c30]; done) | (rw [if_neg (by simp [c8]), if_pos c31]; done) | (rw [if_neg (by simp [c8]), if_neg c30]; done) | (rw [if_neg (by simp [c8]), if_neg c31]; done)), rfl, rfl, (by unfold pmF; first | rfl | (rw [if_pos c8]; done) | (rw [if_pos (by simp [c8])]; done) | (rw [if_neg c8, if_pos c30]; done) | (rw [if_neg c8, if_pos c31]; done) | (rw [if_neg c8, if_neg c30]; done) | (rw [if_neg c8, if_neg c31]; done) | (rw [if_neg (by simp [c8]), if_pos c30]; done) | (rw [if_neg (by simp [c8]), if_pos c31]; done) | (rw [if_neg (by simp [c8]), if_neg c30]; done) | (rw [if_neg (by simp [c8]), if_neg c31]; done)), rfl, rfl⟩

set_option maxHeartbeats 4000000 in
theorem c_X4_movesActs {E : ZE} {n : Nat} {T : ZT} {I : ZI} {L : ZL} {R : ZR} {t : Nat} (hL : TL T R t) {s : RS} {x : Int32} (hr : s.1 < 890) : zM E yX4_movesActs cX4_movesActs 2 (some (Jvm.ClassFile.FieldType.int)) 2 0 0 [.ref t, .int x] n T (mA t I s) L R (zis (some (.int (maF (I t 21) (I t 22) x s).1)) n T (mA t I (maF (I t 21) (I t 22) x s).2) L R) := by
  refine zM.of (lv0 := [some (.ref t), some (.int x)]) pn_X4 (Nat.le_of_ble_eq_true rfl) rfl fun G g r hin hlt hbn => ?_
  have g : zGd E G cX4_movesActs RX4 2 2 0 0 := g
  have hL0 := hL
  obtain ⟨hT, h1, ht1, h2, ht2, h3, ht3, h10, ht4, h11, ht5, ht6, ht7, h16, ht8, h17, ht9, h19, ht10⟩ := hL0
  refine z_al0 g dX4_movesActs_0 ?_
  refine zg4_21 g q1263 (Or.inl rfl) (by assumption) dX4_movesActs_1 ?_
  rw [mA_f (by decide)]
  refine z_iconst g dX4_movesActs_4 zki_1 ?_
  refine z_callS2 g ck_X4_isUnder q1635 q1636 c_X4_isUnder rfl (Nat.le_of_ble_eq_true rfl) (by omega) (by omega) (by omega) dX4_movesActs_5 (z_ans1 ?_)
  refine z_ifb_eq (tgt := 25) g dX4_movesActs_8 (by decide) (fun c8 => ?_) (fun c8 => ?_)
  · skip
    refine z_al0 g dX4_movesActs_25 ?_
    refine zg4_21 g q1263 (Or.inl rfl) (by assumption) dX4_movesActs_26 ?_
    rw [mA_f (by decide)]
    refine z_iconst g dX4_movesActs_29 zki_5 ?_
    refine z_icmp_ne (tgt := 50) g dX4_movesActs_30 (by decide) (fun c30 => ?_) (fun c30 => ?_)
    · skip
      refine z_al0 g dX4_movesActs_50 ?_
      refine z_il1 g dX4_movesActs_51 ?_
      refine z_callV1 g ck_X4_plainMoves q1642 q1644 qs75 cls4 (by assumption) (c_X4_plainMoves hL (by have h := hr; first | exact Nat.lt_of_lt_of_le h (by decide) | exact Nat.lt_of_lt_of_le (Nat.succ_lt_succ h) (by decide))) rfl (Nat.le_of_ble_eq_true rfl) (by omega) (by omega) (by omega) dX4_movesActs_52 (z_ans1 ?_)
      refine z_iret g r (by omega) (by omega) dX4_movesActs_55 ?_
      exact ⟨(by unfold maF; first | rfl | (rw [if_pos c8]; done) | (rw [if_pos (by simp [c8])]; done) | (rw [if_neg c8, if_pos c30]; done) | (rw [if_neg c8, if_pos c31]; done) | (rw [if_neg c8, if_neg c30]; done) | (rw [if_neg c8, if_neg c31]; done) | (rw [if_neg (by simp [c8]), if_pos c30]; done) | (rw [if_neg (by simp [c8]), if_pos c31]; done) | (rw [if_neg (by simp [c8]), if_neg c30]; done) | (rw [if_neg (by simp [c8]), if_neg c31]; done)), rfl, rfl, (by unfold maF; first | rfl | (rw [if_pos c8]; done) | (rw [if_pos (by simp [c8])]; done) | (rw [if_neg c8, if_pos c30]; done) | (rw [if_neg c8, if_pos c31]; done) | (rw [if_neg c8, if_neg c30]; done) | (rw [if_neg c8, if_neg c31]; done) | (rw [if_neg (by simp [c8]), if_pos c30]; done) | (rw [if_neg (by simp [c8]), if_pos c31]; done) | (rw [if_neg (by simp [c8]), if_neg c30]; done) | (rw [if_neg (by simp [c8]), if_neg c31]; done)), rfl, rfl⟩
    · skip
      refine z_al0 g dX4_movesActs_33 ?_
      refine z_bipush g dX4_movesActs_34 zkb_51 ?_
      refine z_callV1 g ck_X4_ranBody q1638 q1640 qs74 cls4 (by assumption) (c_X4_ranBody hL (by omega) (by have h := hr; first | exact Nat.lt_of_lt_of_le h (by decide) | exact Nat.lt_of_lt_of_le (Nat.succ_lt_succ h) (by decide))) rfl (Nat.le_of_ble_eq_true rfl) (by omega) (by omega) (by omega) dX4_movesActs_36 (z_ans0 ?_)
      refine z_al0 g dX4_movesActs_39 ?_
      refine z_il1 g dX4_movesActs_40 ?_
      refine z_callV1 g ck_X4_plainMoves q1642 q1644 qs75 cls4 (by assumption) (c_X4_plainMoves hL (by have h := hr; first | exact Nat.lt_of_lt_of_le h (by decide) | exact Nat.lt_of_lt_of_le (Nat.succ_lt_succ h) (by decide))) rfl (Nat.le_of_ble_eq_true rfl) (by omega) (by omega) (by omega) dX4_movesActs_41 (z_ans1 ?_)
      refine z_al0 g dX4_movesActs_44 ?_
      refine zg4_22 g q1264 (Or.inl rfl) (by assumption) dX4_movesActs_45 ?_
      rw [mA_f (by decide)]
      refine z_ixor g dX4_movesActs_48 ?_
      refine z_iret g r (by omega) (by omega) dX4_movesActs_49 ?_
      exact ⟨(by unfold maF; first | rfl | (rw [if_pos c8]; done) | (rw [if_pos (by simp [c8])]; done) | (rw [if_neg c8, if_pos c30]; done) | (rw [if_neg c8, if_pos c31]; done) | (rw [if_neg c8, if_neg c30]; done) | (rw [if_neg c8, if_neg c31]; done) | (rw [if_neg (by simp [c8]), if_pos c30]; done) | (rw [if_neg (by simp [c8]), if_pos c31]; done) | (rw [if_neg (by simp [c8]), if_neg c30]; done) | (rw [if_neg (by simp [c8]), if_neg c31]; done)), rfl, rfl, (by unfold maF; first | rfl | (rw [if_pos c8]; done) | (rw [if_pos (by simp [c8])]; done) | (rw [if_neg c8, if_pos c30]; done) | (rw [if_neg c8, if_pos c31]; done) | (rw [if_neg c8, if_neg c30]; done) | (rw [if_neg c8, if_neg c31]; done) | (rw [if_neg (by simp [c8]), if_pos c30]; done) | (rw [if_neg (by simp [c8]), if_pos c31]; done) | (rw [if_neg (by simp [c8]), if_neg c30]; done) | (rw [if_neg (by simp [c8]), if_neg c31]; done)), rfl, rfl⟩
  · skip
    refine z_al0 g dX4_movesActs_11 ?_
    refine z_bipush g dX4_movesActs_12 zkb_11 ?_
    refine z_callV1 g ck_X4_ranBody q1638 q1640 qs74 cls4 (by assumption) (c_X4_ranBody hL (by omega) (by have h := hr; first | exact Nat.lt_of_lt_of_le h (by decide) | exact Nat.lt_of_lt_of_le (Nat.succ_lt_succ h) (by decide))) rfl (Nat.le_of_ble_eq_true rfl) (by omega) (by omega) (by omega) dX4_movesActs_14 (z_ans0 ?_)
    refine z_al0 g dX4_movesActs_17 ?_
    refine z_il1 g dX4_movesActs_18 ?_
    refine z_iconst g dX4_movesActs_19 zki_3 ?_
    first | with_reducible refine z_imulN g dX4_movesActs_20 ?_ | refine z_imul g dX4_movesActs_20 ?_
    refine z_callV1 g ck_X4_plainMoves q1642 q1644 qs75 cls4 (by assumption) (c_X4_plainMoves hL (by have h := hr; first | exact Nat.lt_of_lt_of_le h (by decide) | exact Nat.lt_of_lt_of_le (Nat.succ_lt_succ h) (by decide))) rfl (Nat.le_of_ble_eq_true rfl) (by omega) (by omega) (by omega) dX4_movesActs_21 (z_ans1 ?_)
    refine z_iret g r (by omega) (by omega) dX4_movesActs_24 ?_
    exact ⟨(by unfold maF; first | rfl | (rw [if_pos c8]; done) | (rw [if_pos (by simp [c8])]; done) | (rw [if_neg c8, if_pos c30]; done) | (rw [if_neg c8, if_pos c31]; done) | (rw [if_neg c8, if_neg c30]; done) | (rw [if_neg c8, if_neg c31]; done) | (rw [if_neg (by simp [c8]), if_pos c30]; done) | (rw [if_neg (by simp [c8]), if_pos c31]; done) | (rw [if_neg (by simp [c8]), if_neg c30]; done) | (rw [if_neg (by simp [c8]), if_neg c31]; done)), rfl, rfl, (by unfold maF; first | rfl | (rw [if_pos c8]; done) | (rw [if_pos (by simp [c8])]; done) | (rw [if_neg c8, if_pos c30]; done) | (rw [if_neg c8, if_pos c31]; done) | (rw [if_neg c8, if_neg c30]; done) | (rw [if_neg c8, if_neg c31]; done) | (rw [if_neg (by simp [c8]), if_pos c30]; done) | (rw [if_neg (by simp [c8]), if_pos c31]; done) | (rw [if_neg (by simp [c8]), if_neg c30]; done) | (rw [if_neg (by simp [c8]), if_neg c31]; done)), rfl, rfl⟩

set_option maxHeartbeats 4000000 in
theorem c_X4_plainBets {E : ZE} {n : Nat} {T : ZT} {I : ZI} {L : ZL} {R : ZR} {t : Nat} (hL : TL T R t) {s : RS} {x : Int32} (hr : s.1 < 880) : zM E yX4_plainBets cX4_plainBets 2 (some (Jvm.ClassFile.FieldType.int)) 3 0 0 [.ref t, .int x] n T (mA t I s) L R (zis (some (.int (pbF (I t 21) (I t 22) (I t 23) x s).1)) n T (mA t I (pbF (I t 21) (I t 22) (I t 23) x s).2) L R) := by
  refine zM.of (lv0 := [some (.ref t), some (.int x)]) pn_X4 (Nat.le_of_ble_eq_true rfl) rfl fun G g r hin hlt hbn => ?_
  have g : zGd E G cX4_plainBets RX4 2 3 0 0 := g
  have hL0 := hL
  obtain ⟨hT, h1, ht1, h2, ht2, h3, ht3, h10, ht4, h11, ht5, ht6, ht7, h16, ht8, h17, ht9, h19, ht10⟩ := hL0
  refine z_al0 g dX4_plainBets_0 ?_
  refine z_iconst g dX4_plainBets_1 zki_2 ?_
  refine z_callV1 g ck_X4_ranBody q1638 q1640 qs74 cls4 (by assumption) (c_X4_ranBody hL (by omega) (by have h := hr; first | exact Nat.lt_of_lt_of_le h (by decide) | exact Nat.lt_of_lt_of_le (Nat.succ_lt_succ h) (by decide))) rfl (Nat.le_of_ble_eq_true rfl) (by omega) (by omega) (by omega) dX4_plainBets_2 (z_ans0 ?_)
  refine z_al0 g dX4_plainBets_5 ?_
  refine z_il1 g dX4_plainBets_6 ?_
  refine z_callV1 g ck_X4_movesActs q1631 q1633 qs73 cls4 (by assumption) (c_X4_movesActs hL (by have h := hr; first | exact Nat.lt_of_lt_of_le h (by decide) | exact Nat.lt_of_lt_of_le (Nat.succ_lt_succ h) (by decide))) rfl (Nat.le_of_ble_eq_true rfl) (by omega) (by omega) (by omega) dX4_plainBets_7 (z_ans1 ?_)
  refine z_al0 g dX4_plainBets_10 ?_
  refine zg4_23 g q1265 (Or.inl rfl) (by assumption) dX4_plainBets_11 ?_
  rw [mA_f (by decide)]
  first | with_reducible refine z_isubN g dX4_plainBets_14 (by omega) ?_ | refine z_isub g dX4_plainBets_14 ?_
  refine z_iret g r (by omega) (by omega) dX4_plainBets_15 ?_
  exact ⟨(by unfold pbF; first | rfl | (rw [if_pos c8]; done) | (rw [if_pos (by simp [c8])]; done) | (rw [if_neg c8, if_pos c30]; done) | (rw [if_neg c8, if_pos c31]; done) | (rw [if_neg c8, if_neg c30]; done) | (rw [if_neg c8, if_neg c31]; done) | (rw [if_neg (by simp [c8]), if_pos c30]; done) | (rw [if_neg (by simp [c8]), if_pos c31]; done) | (rw [if_neg (by simp [c8]), if_neg c30]; done) | (rw [if_neg (by simp [c8]), if_neg c31]; done)), rfl, rfl, (by unfold pbF; first | rfl | (rw [if_pos c8]; done) | (rw [if_pos (by simp [c8])]; done) | (rw [if_neg c8, if_pos c30]; done) | (rw [if_neg c8, if_pos c31]; done) | (rw [if_neg c8, if_neg c30]; done) | (rw [if_neg c8, if_neg c31]; done) | (rw [if_neg (by simp [c8]), if_pos c30]; done) | (rw [if_neg (by simp [c8]), if_pos c31]; done) | (rw [if_neg (by simp [c8]), if_neg c30]; done) | (rw [if_neg (by simp [c8]), if_neg c31]; done)), rfl, rfl⟩

set_option maxHeartbeats 4000000 in
theorem c_X4_betsActs {E : ZE} {n : Nat} {T : ZT} {I : ZI} {L : ZL} {R : ZR} {t : Nat} (hL : TL T R t) {s : RS} {x : Int32} (hr : s.1 < 870) : zM E yX4_betsActs cX4_betsActs 2 (some (Jvm.ClassFile.FieldType.int)) 4 0 0 [.ref t, .int x] n T (mA t I s) L R (zis (some (.int (baF (I t 21) (I t 22) (I t 23) x s).1)) n T (mA t I (baF (I t 21) (I t 22) (I t 23) x s).2) L R) := by
  refine zM.of (lv0 := [some (.ref t), some (.int x)]) pn_X4 (Nat.le_of_ble_eq_true rfl) rfl fun G g r hin hlt hbn => ?_
  have g : zGd E G cX4_betsActs RX4 2 4 0 0 := g
  have hL0 := hL
  obtain ⟨hT, h1, ht1, h2, ht2, h3, ht3, h10, ht4, h11, ht5, ht6, ht7, h16, ht8, h17, ht9, h19, ht10⟩ := hL0
  refine z_al0 g dX4_betsActs_0 ?_
  refine zg4_21 g q1263 (Or.inl rfl) (by assumption) dX4_betsActs_1 ?_
  rw [mA_f (by decide)]
  refine z_iconst g dX4_betsActs_4 zki_2 ?_
  refine z_callS2 g ck_X4_isUnder q1635 q1636 c_X4_isUnder rfl (Nat.le_of_ble_eq_true rfl) (by omega) (by omega) (by omega) dX4_betsActs_5 (z_ans1 ?_)
  refine z_ifb_eq (tgt := 24) g dX4_betsActs_8 (by decide) (fun c8 => ?_) (fun c8 => ?_)
  · skip
    refine z_al0 g dX4_betsActs_24 ?_
    refine zg4_21 g q1263 (Or.inl rfl) (by assumption) dX4_betsActs_25 ?_
    rw [mA_f (by decide)]
    refine z_bipush g dX4_betsActs_28 zkb_6 ?_
    refine z_icmp_ne (tgt := 50) g dX4_betsActs_30 (by decide) (fun c30 => ?_) (fun c30 => ?_)
    · skip
      refine z_al0 g dX4_betsActs_50 ?_
      refine z_il1 g dX4_betsActs_51 ?_
      refine z_callV1 g ck_X4_plainBets q1650 q1652 qs77 cls4 (by assumption) (c_X4_plainBets hL (by have h := hr; first | exact Nat.lt_of_lt_of_le h (by decide) | exact Nat.lt_of_lt_of_le (Nat.succ_lt_succ h) (by decide))) rfl (Nat.le_of_ble_eq_true rfl) (by omega) (by omega) (by omega) dX4_betsActs_52 (z_ans1 ?_)
      refine z_iret g r (by omega) (by omega) dX4_betsActs_55 ?_
      exact ⟨(by unfold baF; first | rfl | (rw [if_pos c8]; done) | (rw [if_pos (by simp [c8])]; done) | (rw [if_neg c8, if_pos c30]; done) | (rw [if_neg c8, if_pos c31]; done) | (rw [if_neg c8, if_neg c30]; done) | (rw [if_neg c8, if_neg c31]; done) | (rw [if_neg (by simp [c8]), if_pos c30]; done) | (rw [if_neg (by simp [c8]), if_pos c31]; done) | (rw [if_neg (by simp [c8]), if_neg c30]; done) | (rw [if_neg (by simp [c8]), if_neg c31]; done)), rfl, rfl, (by unfold baF; first | rfl | (rw [if_pos c8]; done) | (rw [if_pos (by simp [c8])]; done) | (rw [if_neg c8, if_pos c30]; done) | (rw [if_neg c8, if_pos c31]; done) | (rw [if_neg c8, if_neg c30]; done) | (rw [if_neg c8, if_neg c31]; done) | (rw [if_neg (by simp [c8]), if_pos c30]; done) | (rw [if_neg (by simp [c8]), if_pos c31]; done) | (rw [if_neg (by simp [c8]), if_neg c30]; done) | (rw [if_neg (by simp [c8]), if_neg c31]; done)), rfl, rfl⟩
    · skip
      refine z_al0 g dX4_betsActs_33 ?_
      refine z_bipush g dX4_betsActs_34 zkb_61 ?_
      refine z_callV1 g ck_X4_ranBody q1638 q1640 qs74 cls4 (by assumption) (c_X4_ranBody hL (by omega) (by have h := hr; first | exact Nat.lt_of_lt_of_le h (by decide) | exact Nat.lt_of_lt_of_le (Nat.succ_lt_succ h) (by decide))) rfl (Nat.le_of_ble_eq_true rfl) (by omega) (by omega) (by omega) dX4_betsActs_36 (z_ans0 ?_)
      refine z_al0 g dX4_betsActs_39 ?_
      refine z_il1 g dX4_betsActs_40 ?_
      refine z_callV1 g ck_X4_plainBets q1650 q1652 qs77 cls4 (by assumption) (c_X4_plainBets hL (by have h := hr; first | exact Nat.lt_of_lt_of_le h (by decide) | exact Nat.lt_of_lt_of_le (Nat.succ_lt_succ h) (by decide))) rfl (Nat.le_of_ble_eq_true rfl) (by omega) (by omega) (by omega) dX4_betsActs_41 (z_ans1 ?_)
      refine z_al0 g dX4_betsActs_44 ?_
      refine zg4_23 g q1265 (Or.inl rfl) (by assumption) dX4_betsActs_45 ?_
      rw [mA_f (by decide)]
      first | with_reducible refine z_iaddN g dX4_betsActs_48 ?_ | refine z_iadd g dX4_betsActs_48 ?_
      refine z_iret g r (by omega) (by omega) dX4_betsActs_49 ?_
      exact ⟨(by unfold baF; first | rfl | (rw [if_pos c8]; done) | (rw [if_pos (by simp [c8])]; done) | (rw [if_neg c8, if_pos c30]; done) | (rw [if_neg c8, if_pos c31]; done) | (rw [if_neg c8, if_neg c30]; done) | (rw [if_neg c8, if_neg c31]; done) | (rw [if_neg (by simp [c8]), if_pos c30]; done) | (rw [if_neg (by simp [c8]), if_pos c31]; done) | (rw [if_neg (by simp [c8]), if_neg c30]; done) | (rw [if_neg (by simp [c8]), if_neg c31]; done)), rfl, rfl, (by unfold baF; first | rfl | (rw [if_pos c8]; done) | (rw [if_pos (by simp [c8])]; done) | (rw [if_neg c8, if_pos c30]; done) | (rw [if_neg c8, if_pos c31]; done) | (rw [if_neg c8, if_neg c30]; done) | (rw [if_neg c8, if_neg c31]; done) | (rw [if_neg (by simp [c8]), if_pos c30]; done) | (rw [if_neg (by simp [c8]), if_pos c31]; done) | (rw [if_neg (by simp [c8]), if_neg c30]; done) | (rw [if_neg (by simp [c8]), if_neg c31]; done)), rfl, rfl⟩
  · skip
    refine z_al0 g dX4_betsActs_11 ?_
    refine z_bipush g dX4_betsActs_12 zkb_21 ?_
    refine z_callV1 g ck_X4_ranBody q1638 q1640 qs74 cls4 (by assumption) (c_X4_ranBody hL (by omega) (by have h := hr; first | exact Nat.lt_of_lt_of_le h (by decide) | exact Nat.lt_of_lt_of_le (Nat.succ_lt_succ h) (by decide))) rfl (Nat.le_of_ble_eq_true rfl) (by omega) (by omega) (by omega) dX4_betsActs_14 (z_ans0 ?_)
    refine z_al0 g dX4_betsActs_17 ?_
    refine z_il1 g dX4_betsActs_18 ?_
    refine z_callV1 g ck_X4_plainBets q1650 q1652 qs77 cls4 (by assumption) (c_X4_plainBets hL (by have h := hr; first | exact Nat.lt_of_lt_of_le h (by decide) | exact Nat.lt_of_lt_of_le (Nat.succ_lt_succ h) (by decide))) rfl (Nat.le_of_ble_eq_true rfl) (by omega) (by omega) (by omega) dX4_betsActs_19 (z_ans1 ?_)
    refine z_ineg g dX4_betsActs_22 ?_
    refine z_iret g r (by omega) (by omega) dX4_betsActs_23 ?_
    exact ⟨(by unfold baF; first | rfl | (rw [if_pos c8]; done) | (rw [if_pos (by simp [c8])]; done) | (rw [if_neg c8, if_pos c30]; done) | (rw [if_neg c8, if_pos c31]; done) | (rw [if_neg c8, if_neg c30]; done) | (rw [if_neg c8, if_neg c31]; done) | (rw [if_neg (by simp [c8]), if_pos c30]; done) | (rw [if_neg (by simp [c8]), if_pos c31]; done) | (rw [if_neg (by simp [c8]), if_neg c30]; done) | (rw [if_neg (by simp [c8]), if_neg c31]; done)), rfl, rfl, (by unfold baF; first | rfl | (rw [if_pos c8]; done) | (rw [if_pos (by simp [c8])]; done) | (rw [if_neg c8, if_pos c30]; done) | (rw [if_neg c8, if_pos c31]; done) | (rw [if_neg c8, if_neg c30]; done) | (rw [if_neg c8, if_neg c31]; done) | (rw [if_neg (by simp [c8]), if_pos c30]; done) | (rw [if_neg (by simp [c8]), if_pos c31]; done) | (rw [if_neg (by simp [c8]), if_neg c30]; done) | (rw [if_neg (by simp [c8]), if_neg c31]; done)), rfl, rfl⟩

set_option maxHeartbeats 4000000 in
theorem c_X4_plainTells {E : ZE} {n : Nat} {T : ZT} {I : ZI} {L : ZL} {R : ZR} {t : Nat} (hL : TL T R t) {s : RS} {x : Int32} (hr : s.1 < 860) : zM E yX4_plainTells cX4_plainTells 2 (some (Jvm.ClassFile.FieldType.int)) 5 0 0 [.ref t, .int x] n T (mA t I s) L R (zis (some (.int (ptF (I t 21) (I t 22) (I t 23) x s).1)) n T (mA t I (ptF (I t 21) (I t 22) (I t 23) x s).2) L R) := by
  refine zM.of (lv0 := [some (.ref t), some (.int x)]) pn_X4 (Nat.le_of_ble_eq_true rfl) rfl fun G g r hin hlt hbn => ?_
  have g : zGd E G cX4_plainTells RX4 2 5 0 0 := g
  have hL0 := hL
  obtain ⟨hT, h1, ht1, h2, ht2, h3, ht3, h10, ht4, h11, ht5, ht6, ht7, h16, ht8, h17, ht9, h19, ht10⟩ := hL0
  refine z_al0 g dX4_plainTells_0 ?_
  refine z_iconst g dX4_plainTells_1 zki_3 ?_
  refine z_callV1 g ck_X4_ranBody q1638 q1640 qs74 cls4 (by assumption) (c_X4_ranBody hL (by omega) (by have h := hr; first | exact Nat.lt_of_lt_of_le h (by decide) | exact Nat.lt_of_lt_of_le (Nat.succ_lt_succ h) (by decide))) rfl (Nat.le_of_ble_eq_true rfl) (by omega) (by omega) (by omega) dX4_plainTells_2 (z_ans0 ?_)
  refine z_al0 g dX4_plainTells_5 ?_
  refine z_il1 g dX4_plainTells_6 ?_
  refine z_callV1 g ck_X4_betsActs q1646 q1648 qs76 cls4 (by assumption) (c_X4_betsActs hL (by have h := hr; first | exact Nat.lt_of_lt_of_le h (by decide) | exact Nat.lt_of_lt_of_le (Nat.succ_lt_succ h) (by decide))) rfl (Nat.le_of_ble_eq_true rfl) (by omega) (by omega) (by omega) dX4_plainTells_7 (z_ans1 ?_)
  refine z_iconst g dX4_plainTells_10 zki_2 ?_
  first | with_reducible refine z_imulN g dX4_plainTells_11 ?_ | refine z_imul g dX4_plainTells_11 ?_
  refine z_iret g r (by omega) (by omega) dX4_plainTells_12 ?_
  exact ⟨(by unfold ptF; first | rfl | (rw [if_pos c8]; done) | (rw [if_pos (by simp [c8])]; done) | (rw [if_neg c8, if_pos c30]; done) | (rw [if_neg c8, if_pos c31]; done) | (rw [if_neg c8, if_neg c30]; done) | (rw [if_neg c8, if_neg c31]; done) | (rw [if_neg (by simp [c8]), if_pos c30]; done) | (rw [if_neg (by simp [c8]), if_pos c31]; done) | (rw [if_neg (by simp [c8]), if_neg c30]; done) | (rw [if_neg (by simp [c8]), if_neg c31]; done)), rfl, rfl, (by unfold ptF; first | rfl | (rw [if_pos c8]; done) | (rw [if_pos (by simp [c8])]; done) | (rw [if_neg c8, if_pos c30]; done) | (rw [if_neg c8, if_pos c31]; done) | (rw [if_neg c8, if_neg c30]; done) | (rw [if_neg c8, if_neg c31]; done) | (rw [if_neg (by simp [c8]), if_pos c30]; done) | (rw [if_neg (by simp [c8]), if_pos c31]; done) | (rw [if_neg (by simp [c8]), if_neg c30]; done) | (rw [if_neg (by simp [c8]), if_neg c31]; done)), rfl, rfl⟩

set_option maxHeartbeats 4000000 in
theorem c_X4_tellsActs {E : ZE} {n : Nat} {T : ZT} {I : ZI} {L : ZL} {R : ZR} {t : Nat} (hL : TL T R t) {s : RS} {x : Int32} (hr : s.1 < 850) : zM E yX4_tellsActs cX4_tellsActs 3 (some (Jvm.ClassFile.FieldType.int)) 6 0 0 [.ref t, .int x] n T (mA t I s) L R (zis (some (.int (taF (I t 21) (I t 22) (I t 23) x s).1)) n T (mA t I (taF (I t 21) (I t 22) (I t 23) x s).2) L R) := by
  refine zM.of (lv0 := [some (.ref t), some (.int x), none]) pn_X4 (Nat.le_of_ble_eq_true rfl) rfl fun G g r hin hlt hbn => ?_
  have g : zGd E G cX4_tellsActs RX4 3 6 0 0 := g
  have hL0 := hL
  obtain ⟨hT, h1, ht1, h2, ht2, h3, ht3, h10, ht4, h11, ht5, ht6, ht7, h16, ht8, h17, ht9, h19, ht10⟩ := hL0
  refine z_al0 g dX4_tellsActs_0 ?_
  refine zg4_21 g q1263 (Or.inl rfl) (by assumption) dX4_tellsActs_1 ?_
  rw [mA_f (by decide)]
  refine z_iconst g dX4_tellsActs_4 zki_3 ?_
  refine z_callS2 g ck_X4_isUnder q1635 q1636 c_X4_isUnder rfl (Nat.le_of_ble_eq_true rfl) (by omega) (by omega) (by omega) dX4_tellsActs_5 (z_ans1 ?_)
  refine z_ifb_eq (tgt := 26) g dX4_tellsActs_8 (by decide) (fun c8 => ?_) (fun c8 => ?_)
  · skip
    refine z_al0 g dX4_tellsActs_26 ?_
    refine zg4_21 g q1263 (Or.inl rfl) (by assumption) dX4_tellsActs_27 ?_
    rw [mA_f (by decide)]
    refine z_iconst g dX4_tellsActs_30 zki_4 ?_
    refine z_icmp_ne (tgt := 56) g dX4_tellsActs_31 (by decide) (fun c31 => ?_) (fun c31 => ?_)
    · skip
      refine z_al0 g dX4_tellsActs_56 ?_
      refine z_il1 g dX4_tellsActs_57 ?_
      refine z_callV1 g ck_X4_plainTells q1658 q1660 qs79 cls4 (by assumption) (c_X4_plainTells hL (by have h := hr; first | exact Nat.lt_of_lt_of_le h (by decide) | exact Nat.lt_of_lt_of_le (Nat.succ_lt_succ h) (by decide))) rfl (Nat.le_of_ble_eq_true rfl) (by omega) (by omega) (by omega) dX4_tellsActs_58 (z_ans1 ?_)
      refine z_iret g r (by omega) (by omega) dX4_tellsActs_61 ?_
      exact ⟨(by unfold taF; first | rfl | (rw [if_pos c8]; done) | (rw [if_pos (by simp [c8])]; done) | (rw [if_neg c8, if_pos c30]; done) | (rw [if_neg c8, if_pos c31]; done) | (rw [if_neg c8, if_neg c30]; done) | (rw [if_neg c8, if_neg c31]; done) | (rw [if_neg (by simp [c8]), if_pos c30]; done) | (rw [if_neg (by simp [c8]), if_pos c31]; done) | (rw [if_neg (by simp [c8]), if_neg c30]; done) | (rw [if_neg (by simp [c8]), if_neg c31]; done)), rfl, rfl, (by unfold taF; first | rfl | (rw [if_pos c8]; done) | (rw [if_pos (by simp [c8])]; done) | (rw [if_neg c8, if_pos c30]; done) | (rw [if_neg c8, if_pos c31]; done) | (rw [if_neg c8, if_neg c30]; done) | (rw [if_neg c8, if_neg c31]; done) | (rw [if_neg (by simp [c8]), if_pos c30]; done) | (rw [if_neg (by simp [c8]), if_pos c31]; done) | (rw [if_neg (by simp [c8]), if_neg c30]; done) | (rw [if_neg (by simp [c8]), if_neg c31]; done)), rfl, rfl⟩
    · skip
      refine z_al0 g dX4_tellsActs_34 ?_
      refine z_bipush g dX4_tellsActs_35 zkb_41 ?_
      refine z_callV1 g ck_X4_ranBody q1638 q1640 qs74 cls4 (by assumption) (c_X4_ranBody hL (by omega) (by have h := hr; first | exact Nat.lt_of_lt_of_le h (by decide) | exact Nat.lt_of_lt_of_le (Nat.succ_lt_succ h) (by decide))) rfl (Nat.le_of_ble_eq_true rfl) (by omega) (by omega) (by omega) dX4_tellsActs_37 (z_ans0 ?_)
      refine z_al0 g dX4_tellsActs_40 ?_
      refine z_il1 g dX4_tellsActs_41 ?_
      refine z_iconst g dX4_tellsActs_42 zki_1 ?_
      first | with_reducible refine z_isubN g dX4_tellsActs_43 (by omega) ?_ | refine z_isub g dX4_tellsActs_43 ?_
      refine z_callV1 g ck_X4_plainTells q1658 q1660 qs79 cls4 (by assumption) (c_X4_plainTells hL (by have h := hr; first | exact Nat.lt_of_lt_of_le h (by decide) | exact Nat.lt_of_lt_of_le (Nat.succ_lt_succ h) (by decide))) rfl (Nat.le_of_ble_eq_true rfl) (by omega) (by omega) (by omega) dX4_tellsActs_44 (z_ans1 ?_)
      refine z_is2 g dX4_tellsActs_47 rfl ?_
      refine z_il2 g dX4_tellsActs_48 ?_
      refine z_al0 g dX4_tellsActs_49 ?_
      refine z_iconst g dX4_tellsActs_50 zki_2 ?_
      refine z_callV1 g ck_X4_movesActs q1631 q1633 qs73 cls4 (by assumption) (c_X4_movesActs hL (Nat.lt_of_le_of_lt pt_le (show s.1 + 1 + 5 < 890 by omega))) rfl (Nat.le_of_ble_eq_true rfl) (by omega) (by omega) (by omega) dX4_tellsActs_51 (z_ans1 ?_)
      first | with_reducible refine z_iaddN g dX4_tellsActs_54 ?_ | refine z_iadd g dX4_tellsActs_54 ?_
      refine z_iret g r (by omega) (by omega) dX4_tellsActs_55 ?_
      exact ⟨(by unfold taF; first | rfl | (rw [if_pos c8]; done) | (rw [if_pos (by simp [c8])]; done) | (rw [if_neg c8, if_pos c30]; done) | (rw [if_neg c8, if_pos c31]; done) | (rw [if_neg c8, if_neg c30]; done) | (rw [if_neg c8, if_neg c31]; done) | (rw [if_neg (by simp [c8]), if_pos c30]; done) | (rw [if_neg (by simp [c8]), if_pos c31]; done) | (rw [if_neg (by simp [c8]), if_neg c30]; done) | (rw [if_neg (by simp [c8]), if_neg c31]; done)), rfl, rfl, (by unfold taF; first | rfl | (rw [if_pos c8]; done) | (rw [if_pos (by simp [c8])]; done) | (rw [if_neg c8, if_pos c30]; done) | (rw [if_neg c8, if_pos c31]; done) | (rw [if_neg c8, if_neg c30]; done) | (rw [if_neg c8, if_neg c31]; done) | (rw [if_neg (by simp [c8]), if_pos c30]; done) | (rw [if_neg (by simp [c8]), if_pos c31]; done) | (rw [if_neg (by simp [c8]), if_neg c30]; done) | (rw [if_neg (by simp [c8]), if_neg c31]; done)), rfl, rfl⟩
  · skip
    refine z_al0 g dX4_tellsActs_11 ?_
    refine z_bipush g dX4_tellsActs_12 zkb_31 ?_
    refine z_callV1 g ck_X4_ranBody q1638 q1640 qs74 cls4 (by assumption) (c_X4_ranBody hL (by omega) (by have h := hr; first | exact Nat.lt_of_lt_of_le h (by decide) | exact Nat.lt_of_lt_of_le (Nat.succ_lt_succ h) (by decide))) rfl (Nat.le_of_ble_eq_true rfl) (by omega) (by omega) (by omega) dX4_tellsActs_14 (z_ans0 ?_)
    refine z_al0 g dX4_tellsActs_17 ?_
    refine z_il1 g dX4_tellsActs_18 ?_
    refine z_callV1 g ck_X4_plainTells q1658 q1660 qs79 cls4 (by assumption) (c_X4_plainTells hL (by have h := hr; first | exact Nat.lt_of_lt_of_le h (by decide) | exact Nat.lt_of_lt_of_le (Nat.succ_lt_succ h) (by decide))) rfl (Nat.le_of_ble_eq_true rfl) (by omega) (by omega) (by omega) dX4_tellsActs_19 (z_ans1 ?_)
    refine z_bipush g dX4_tellsActs_22 zkb_7 ?_
    refine z_ixor g dX4_tellsActs_24 ?_
    refine z_iret g r (by omega) (by omega) dX4_tellsActs_25 ?_
    exact ⟨(by unfold taF; first | rfl | (rw [if_pos c8]; done) | (rw [if_pos (by simp [c8])]; done) | (rw [if_neg c8, if_pos c30]; done) | (rw [if_neg c8, if_pos c31]; done) | (rw [if_neg c8, if_neg c30]; done) | (rw [if_neg c8, if_neg c31]; done) | (rw [if_neg (by simp [c8]), if_pos c30]; done) | (rw [if_neg (by simp [c8]), if_pos c31]; done) | (rw [if_neg (by simp [c8]), if_neg c30]; done) | (rw [if_neg (by simp [c8]), if_neg c31]; done)), rfl, rfl, (by unfold taF; first | rfl | (rw [if_pos c8]; done) | (rw [if_pos (by simp [c8])]; done) | (rw [if_neg c8, if_pos c30]; done) | (rw [if_neg c8, if_pos c31]; done) | (rw [if_neg c8, if_neg c30]; done) | (rw [if_neg c8, if_neg c31]; done) | (rw [if_neg (by simp [c8]), if_pos c30]; done) | (rw [if_neg (by simp [c8]), if_pos c31]; done) | (rw [if_neg (by simp [c8]), if_neg c30]; done) | (rw [if_neg (by simp [c8]), if_neg c31]; done)), rfl, rfl⟩

set_option maxHeartbeats 4000000 in
theorem c_X4_act {E : ZE} {n : Nat} {T : ZT} {I : ZI} {L : ZL} {R : ZR} {t : Nat} (hL : TL T R t) {np : Nat} (hN : I (t + 1) 6 = nI np) (hnp : np ≤ 5) {p w x : Int32} : zM E yX4_act cX4_act 4 (some (Jvm.ClassFile.FieldType.int)) 7 0 0 [.ref t, .int p, .int w, .int x] n T I L R (zex (fun I' : ZI => zag (fun b => b = t ∨ b = t + 10) I I' ∧ (∀ k : Nat, k < 20 → I' t k = I t k) ∧ I' t 20 = nI (actF (I (t + 1)) p w x (I (t + 10))).2.1 ∧ I' (t + 10) = (actF (I (t + 1)) p w x (I (t + 10))).2.2) (fun I' => zis (some (.int (actF (I (t + 1)) p w x (I (t + 10))).1)) n T I' L R)) := by
  refine zM.of (lv0 := [some (.ref t), some (.int p), some (.int w), some (.int x)]) pn_X4 (Nat.le_of_ble_eq_true rfl) rfl fun G g r hin hlt hbn => ?_
  have g : zGd E G cX4_act RX4 4 7 0 0 := g
  have hL0 := hL
  obtain ⟨hT, h1, ht1, h2, ht2, h3, ht3, h10, ht4, h11, ht5, ht6, ht7, h16, ht8, h17, ht9, h19, ht10⟩ := hL0
  refine z_al0 g dX4_act_0 ?_
  refine z_iconst g dX4_act_1 zki_0 ?_
  refine zs4_20 g q1262 (Or.inl rfl) (by assumption) dX4_act_2 ?_
  refine z_al0 g dX4_act_5 ?_
  refine z_il1 g dX4_act_6 ?_
  refine z_callV1 g ck_X4_isPlayer q1438 q1440 qs50 cls4 (by assumption) (c_X4_isPlayer hL) rfl (Nat.le_of_ble_eq_true rfl) (by omega) (by omega) (by omega) dX4_act_7 (z_ans1 ?_)
  refine z_ifb_eq (tgt := 22) g dX4_act_10 (by decide) (fun c10 => ?_) (fun c10 => ?_)
  · skip
    rw [zp_n (show t + 1 ≠ t by omega)] at c10
    refine z_iconst g dX4_act_22 zki_0 ?_
    refine z_iret g r (by omega) (by omega) dX4_act_23 ?_
    refine ⟨_, ⟨zag.rf.put (Or.inl rfl), fun k hk => by rw [zp_s, zp_n (by omega)], ?_, ?_⟩, ?_, rfl, rfl, rfl, rfl, rfl⟩
    · first | (simp [actF, zp_s, *]; done) | (simp_all [actF, zp_s]; done)
    · rw [zp_n (by omega)]
      first | (simp [actF, *]; done) | (simp_all [actF]; done)
    · first | (simp [actF, *]; done) | (simp_all [actF]; done)
  · skip
    rw [zp_n (show t + 1 ≠ t by omega)] at c10
    obtain ⟨pn, pn_lt, rfl⟩ := isPl_of c10 hN hnp
    have pnc : (nI pn).toNatClampNeg = pn := cl_nI (by omega)
    refine z_il2 g dX4_act_13 ?_
    refine z_iconst g dX4_act_14 zki_0 ?_
    refine z_iconst g dX4_act_15 zki_2 ?_
    refine z_callS3 g ck_X4_in q1319 q1320 c_X4_in rfl (Nat.le_of_ble_eq_true rfl) (by omega) (by omega) (by omega) dX4_act_16 (z_ans1 ?_)
    refine z_ifb_ne (tgt := 24) g dX4_act_19 (by decide) (fun c19 => ?_) (fun c19 => ?_)
    · skip
      refine z_al0 g dX4_act_24 ?_
      refine z_al0 g dX4_act_25 ?_
      refine zg4_1 g q1243 (Or.inl rfl) (by assumption) dX4_act_26 (by assumption) ?_
      refine z_bipush g dX4_act_29 zkb_12 ?_
      refine z_il1 g dX4_act_31 ?_
      first | with_reducible refine z_iaddN g dX4_act_32 ?_ | refine z_iadd g dX4_act_32 ?_
      refine z_iald (k := 0) g rfl (by assumption) (by omega) (by omega) dX4_act_33 ?_
      refine zs4_21 g q1263 (Or.inl rfl) (by assumption) dX4_act_34 ?_
      refine z_al0 g dX4_act_37 ?_
      refine z_il1 g dX4_act_38 ?_
      refine zs4_22 g q1264 (Or.inl rfl) (by assumption) dX4_act_39 ?_
      refine z_al0 g dX4_act_42 ?_
      refine z_al0 g dX4_act_43 ?_
      refine zg4_1 g q1243 (Or.inl rfl) (by assumption) dX4_act_44 (by assumption) ?_
      refine z_bipush g dX4_act_47 zkb_17 ?_
      refine z_il1 g dX4_act_49 ?_
      first | with_reducible refine z_iaddN g dX4_act_50 ?_ | refine z_iadd g dX4_act_50 ?_
      refine z_iald (k := 0) g rfl (by assumption) (by omega) (by omega) dX4_act_51 ?_
      refine zs4_23 g q1265 (Or.inl rfl) (by assumption) dX4_act_52 ?_
      refine z_il2 g dX4_act_55 ?_
      refine z_if_ne (tgt := 67) g dX4_act_56 (by decide) (fun c56 => ?_) (fun c56 => ?_)
      · skip
        refine z_il2 g dX4_act_67 ?_
        refine z_iconst g dX4_act_68 zki_1 ?_
        refine z_icmp_ne (tgt := 80) g dX4_act_69 (by decide) (fun c69 => ?_) (fun c69 => ?_)
        · skip
          refine z_mem rfl rfl (show _ = mA t (zp I t (zp (zp (zp (zp (I t) 20 (nI 0)) 21 (I (t + 1) (12 + pn))) 22 (nI pn)) 23 (I (t + 1) (17 + pn)))) (0, I (t + 10)) from (by rw [mA_id (by rw [zp_s, zp_n (by decide), zp_n (by decide), zp_n (by decide), zp_s]) (zp_n (by omega))]; simp only [zp_zp, zp_s, zp_n (show t + 1 ≠ t by omega)])) rfl rfl ?_
          refine z_al0 g dX4_act_80 ?_
          refine z_il3 g dX4_act_81 ?_
          refine z_callV1 g ck_X4_tellsActs q1654 q1656 qs78 cls4 (by assumption) (c_X4_tellsActs hL (show (0 : Nat) < 850 by decide)) rfl (Nat.le_of_ble_eq_true rfl) (by omega) (by omega) (by omega) dX4_act_82 (z_ans1 ?_)
          refine z_iret g r (by omega) (by omega) dX4_act_85 ?_
          have k1 : (zp I t (zp (zp (zp (zp (I t) 20 (nI 0)) 21 (I (t + 1) (12 + pn))) 22 (nI pn)) 23 (I (t + 1) (17 + pn)))) t 21 = I (t + 1) (12 + pn) := by rw [zp_s, zp_n (by decide), zp_n (by decide), zp_s]
          have k2 : (zp I t (zp (zp (zp (zp (I t) 20 (nI 0)) 21 (I (t + 1) (12 + pn))) 22 (nI pn)) 23 (I (t + 1) (17 + pn)))) t 22 = nI pn := by rw [zp_s, zp_n (by decide), zp_s]
          have k3 : (zp I t (zp (zp (zp (zp (I t) 20 (nI 0)) 21 (I (t + 1) (12 + pn))) 22 (nI pn)) 23 (I (t + 1) (17 + pn)))) t 23 = I (t + 1) (17 + pn) := by rw [zp_s, zp_s]
          refine ⟨_, ⟨?_, ?_, ?_, ?_⟩, ?_, rfl, rfl, rfl, rfl, rfl⟩
          · exact ((zag.rf.put (Or.inl rfl)).put (Or.inl rfl)).put (Or.inr rfl)
          · intro k hk
            rw [mA_f (by omega), zp_s, zp_n (by omega), zp_n (by omega), zp_n (by omega), zp_n (by omega)]
          · rw [mA_20]
            simp only [k1, k2, k3]
            unfold actF; rw [if_neg (by simp [c10]), if_neg (by simp [c19]), pnc]; first | (rw [if_pos c56]; done) | (rw [if_neg c56, if_pos c69]; done) | (rw [if_neg c56, if_neg c69]; done)
          · rw [mA_b]
            simp only [k1, k2, k3]
            unfold actF; rw [if_neg (by simp [c10]), if_neg (by simp [c19]), pnc]; first | (rw [if_pos c56]; done) | (rw [if_neg c56, if_pos c69]; done) | (rw [if_neg c56, if_neg c69]; done)
          · simp only [k1, k2, k3]
            unfold actF; rw [if_neg (by simp [c10]), if_neg (by simp [c19]), pnc]; first | (rw [if_pos c56]; done) | (rw [if_neg c56, if_pos c69]; done) | (rw [if_neg c56, if_neg c69]; done)
        · skip
          refine z_mem rfl rfl (show _ = mA t (zp I t (zp (zp (zp (zp (I t) 20 (nI 0)) 21 (I (t + 1) (12 + pn))) 22 (nI pn)) 23 (I (t + 1) (17 + pn)))) (0, I (t + 10)) from (by rw [mA_id (by rw [zp_s, zp_n (by decide), zp_n (by decide), zp_n (by decide), zp_s]) (zp_n (by omega))]; simp only [zp_zp, zp_s, zp_n (show t + 1 ≠ t by omega)])) rfl rfl ?_
          refine z_al0 g dX4_act_72 ?_
          refine z_il3 g dX4_act_73 ?_
          refine z_callV1 g ck_X4_betsActs q1646 q1648 qs76 cls4 (by assumption) (c_X4_betsActs hL (show (0 : Nat) < 870 by decide)) rfl (Nat.le_of_ble_eq_true rfl) (by omega) (by omega) (by omega) dX4_act_74 (z_ans1 ?_)
          refine z_goto (tgt := 85) g dX4_act_77 (by decide) ?_
          refine z_iret g r (by omega) (by omega) dX4_act_85 ?_
          have k1 : (zp I t (zp (zp (zp (zp (I t) 20 (nI 0)) 21 (I (t + 1) (12 + pn))) 22 (nI pn)) 23 (I (t + 1) (17 + pn)))) t 21 = I (t + 1) (12 + pn) := by rw [zp_s, zp_n (by decide), zp_n (by decide), zp_s]
          have k2 : (zp I t (zp (zp (zp (zp (I t) 20 (nI 0)) 21 (I (t + 1) (12 + pn))) 22 (nI pn)) 23 (I (t + 1) (17 + pn)))) t 22 = nI pn := by rw [zp_s, zp_n (by decide), zp_s]
          have k3 : (zp I t (zp (zp (zp (zp (I t) 20 (nI 0)) 21 (I (t + 1) (12 + pn))) 22 (nI pn)) 23 (I (t + 1) (17 + pn)))) t 23 = I (t + 1) (17 + pn) := by rw [zp_s, zp_s]
          refine ⟨_, ⟨?_, ?_, ?_, ?_⟩, ?_, rfl, rfl, rfl, rfl, rfl⟩
          · exact ((zag.rf.put (Or.inl rfl)).put (Or.inl rfl)).put (Or.inr rfl)
          · intro k hk
            rw [mA_f (by omega), zp_s, zp_n (by omega), zp_n (by omega), zp_n (by omega), zp_n (by omega)]
          · rw [mA_20]
            simp only [k1, k2, k3]
            unfold actF; rw [if_neg (by simp [c10]), if_neg (by simp [c19]), pnc]; first | (rw [if_pos c56]; done) | (rw [if_neg c56, if_pos c69]; done) | (rw [if_neg c56, if_neg c69]; done)
          · rw [mA_b]
            simp only [k1, k2, k3]
            unfold actF; rw [if_neg (by simp [c10]), if_neg (by simp [c19]), pnc]; first | (rw [if_pos c56]; done) | (rw [if_neg c56, if_pos c69]; done) | (rw [if_neg c56, if_neg c69]; done)
          · simp only [k1, k2, k3]
            unfold actF; rw [if_neg (by simp [c10]), if_neg (by simp [c19]), pnc]; first | (rw [if_pos c56]; done) | (rw [if_neg c56, if_pos c69]; done) | (rw [if_neg c56, if_neg c69]; done)
      · skip
        refine z_mem rfl rfl (show _ = mA t (zp I t (zp (zp (zp (zp (I t) 20 (nI 0)) 21 (I (t + 1) (12 + pn))) 22 (nI pn)) 23 (I (t + 1) (17 + pn)))) (0, I (t + 10)) from (by rw [mA_id (by rw [zp_s, zp_n (by decide), zp_n (by decide), zp_n (by decide), zp_s]) (zp_n (by omega))]; simp only [zp_zp, zp_s, zp_n (show t + 1 ≠ t by omega)])) rfl rfl ?_
        refine z_al0 g dX4_act_59 ?_
        refine z_il3 g dX4_act_60 ?_
        refine z_callV1 g ck_X4_movesActs q1631 q1633 qs73 cls4 (by assumption) (c_X4_movesActs hL (show (0 : Nat) < 890 by decide)) rfl (Nat.le_of_ble_eq_true rfl) (by omega) (by omega) (by omega) dX4_act_61 (z_ans1 ?_)
        refine z_goto (tgt := 85) g dX4_act_64 (by decide) ?_
        refine z_iret g r (by omega) (by omega) dX4_act_85 ?_
        have k1 : (zp I t (zp (zp (zp (zp (I t) 20 (nI 0)) 21 (I (t + 1) (12 + pn))) 22 (nI pn)) 23 (I (t + 1) (17 + pn)))) t 21 = I (t + 1) (12 + pn) := by rw [zp_s, zp_n (by decide), zp_n (by decide), zp_s]
        have k2 : (zp I t (zp (zp (zp (zp (I t) 20 (nI 0)) 21 (I (t + 1) (12 + pn))) 22 (nI pn)) 23 (I (t + 1) (17 + pn)))) t 22 = nI pn := by rw [zp_s, zp_n (by decide), zp_s]
        have k3 : (zp I t (zp (zp (zp (zp (I t) 20 (nI 0)) 21 (I (t + 1) (12 + pn))) 22 (nI pn)) 23 (I (t + 1) (17 + pn)))) t 23 = I (t + 1) (17 + pn) := by rw [zp_s, zp_s]
        refine ⟨_, ⟨?_, ?_, ?_, ?_⟩, ?_, rfl, rfl, rfl, rfl, rfl⟩
        · exact ((zag.rf.put (Or.inl rfl)).put (Or.inl rfl)).put (Or.inr rfl)
        · intro k hk
          rw [mA_f (by omega), zp_s, zp_n (by omega), zp_n (by omega), zp_n (by omega), zp_n (by omega)]
        · rw [mA_20]
          simp only [k1, k2, k3]
          unfold actF; rw [if_neg (by simp [c10]), if_neg (by simp [c19]), pnc]; first | (rw [if_pos c56]; done) | (rw [if_neg c56, if_pos c69]; done) | (rw [if_neg c56, if_neg c69]; done)
        · rw [mA_b]
          simp only [k1, k2, k3]
          unfold actF; rw [if_neg (by simp [c10]), if_neg (by simp [c19]), pnc]; first | (rw [if_pos c56]; done) | (rw [if_neg c56, if_pos c69]; done) | (rw [if_neg c56, if_neg c69]; done)
        · simp only [k1, k2, k3]
          unfold actF; rw [if_neg (by simp [c10]), if_neg (by simp [c19]), pnc]; first | (rw [if_pos c56]; done) | (rw [if_neg c56, if_pos c69]; done) | (rw [if_neg c56, if_neg c69]; done)
    · skip
      refine z_iconst g dX4_act_22 zki_0 ?_
      refine z_iret g r (by omega) (by omega) dX4_act_23 ?_
      refine ⟨_, ⟨zag.rf.put (Or.inl rfl), fun k hk => by rw [zp_s, zp_n (by omega)], ?_, ?_⟩, ?_, rfl, rfl, rfl, rfl, rfl⟩
      · first | (simp [actF, zp_s, *]; done) | (simp_all [actF, zp_s]; done)
      · rw [zp_n (by omega)]
        first | (simp [actF, *]; done) | (simp_all [actF]; done)
      · first | (simp [actF, *]; done) | (simp_all [actF]; done)

theorem inB_pred {x : Int32} {np : Nat} (h : inB x (nI 0) (nI np - nI 1) = true) (hnp : np < 2 ^ 31) : ∃ j : Nat, j < np ∧ x = nI j := by
  rcases Nat.eq_zero_or_pos np with rfl | hp
  · exfalso
    unfold inB at h
    simp only [Bool.and_eq_true, Bool.not_eq_true', decide_eq_false_iff_not] at h
    obtain ⟨j, hj, rfl⟩ := nI_of (show ¬ x < 0 from h.1)
    refine h.2 (Int32.lt_of_lt_of_le (b := 0) (by decide +kernel) (nI_pos' hj))
  · rw [pk_sub hp] at h
    obtain ⟨j, h1, h2, rfl⟩ := inB_of h (by decide) (by omega)
    exact ⟨j, by omega, rfl⟩
theorem nI_min20 {a : Nat} (h : a < 1000) : (if nI a < nI 20 then nI a else nI 20) = nI (if a < 20 then a else 20) := by
  by_cases h1 : a < 20
  · rw [if_pos (nI_lt h1 (by decide)), if_pos h1]
  · rw [if_neg (nI_nlt (by omega) (by omega)), if_neg h1]
set_option maxHeartbeats 4000000 in
theorem c_X4_trace {E : ZE} {n : Nat} {T : ZT} {I : ZI} {L : ZL} {R : ZR} {t : Nat} (hL : TL T R t) {x : Int32} {rs : RS} (hr : rs.1 < 1000) (h20 : I t 20 = nI rs.1) (hb : I (t + 10) = rs.2) : zM E yX4_trace cX4_trace 2 (some (Jvm.ClassFile.FieldType.int)) 1 0 0 [.ref t, .int x] n T I L R (zis (some (.int (traceF rs x))) n T I L R) := by
  refine zM.of (lv0 := [some (.ref t), some (.int x)]) pn_X4 (Nat.le_of_ble_eq_true rfl) rfl fun G g r hin hlt hbn => ?_
  have g : zGd E G cX4_trace RX4 2 1 0 0 := g
  have hL0 := hL
  obtain ⟨hT, h1, ht1, h2, ht2, h3, ht3, h10, ht4, h11, ht5, ht6, ht7, h16, ht8, h17, ht9, h19, ht10⟩ := hL0
  have htr : traceF rs x = if inB x (nI 0) ((nI (if rs.1 < 20 then rs.1 else 20)) - nI 1) then rs.2 x.toNatClampNeg else -1 := by
    unfold traceF
    rw [nI_min20 hr]
  refine z_il1 g dX4_trace_0 ?_
  refine z_iconst g dX4_trace_1 zki_0 ?_
  refine z_al0 g dX4_trace_2 ?_
  refine zg4_20 g q1262 (Or.inl rfl) (by assumption) dX4_trace_3 ?_
  refine z_bipush g dX4_trace_6 zkb_20 ?_
  refine z_icmp_ge (tgt := 18) g dX4_trace_8 (by decide) (fun c8 => ?_) (fun c8 => ?_)
  · skip
    rw [h20] at c8
    have d8 : ¬ rs.1 < 20 := fun q => nI_ge q (by decide) c8
    refine z_bipush g dX4_trace_18 zkb_20 ?_
    first
      | refine z_top (show _ = (nI (if rs.1 < 20 then rs.1 else 20)) from by rw [if_neg d8]) ?_
      | refine z_top (show _ = (nI (if rs.1 < 20 then rs.1 else 20)) from by rw [if_pos d8]; exact h20) ?_
    refine z_iconst g dX4_trace_20 zki_1 ?_
    first | with_reducible refine z_isubN g dX4_trace_21 (by omega) ?_ | refine z_isub g dX4_trace_21 ?_
    refine z_callS3 g ck_X4_in q1319 q1320 c_X4_in rfl (Nat.le_of_ble_eq_true rfl) (by omega) (by omega) (by omega) dX4_trace_22 (z_ans1 ?_)
    refine z_ifb_eq (tgt := 37) g dX4_trace_25 (by decide) (fun c25 => ?_) (fun c25 => ?_)
    · skip
      rw [if_neg (by simp [c25])] at htr
      refine z_iconst g dX4_trace_37 zki_m1 ?_
      refine z_iret g r (by omega) (by omega) dX4_trace_38 ?_
      exact ⟨by first | (rw [htr]; done) | (rw [htr, hb]; done), rfl, rfl, rfl, rfl, rfl⟩
    · skip
      rw [if_pos c25] at htr
      obtain ⟨j, hj, rfl⟩ := inB_pred c25 (by split <;> omega)
      have hj20 : j < 20 := by
        by_cases q : rs.1 < 20
        · rw [if_pos q] at hj; omega
        · rw [if_neg q] at hj; exact hj
      rw [cl_nI (by omega)] at htr
      refine z_al0 g dX4_trace_28 ?_
      refine zg4_19 g q1261 (Or.inl rfl) (by assumption) dX4_trace_29 (by assumption) ?_
      refine z_il1 g dX4_trace_32 ?_
      refine z_iald (k := 0) g rfl (by assumption) (by omega) (by omega) dX4_trace_33 ?_
      refine z_goto (tgt := 38) g dX4_trace_34 (by decide) ?_
      refine z_iret g r (by omega) (by omega) dX4_trace_38 ?_
      exact ⟨by first | (rw [htr]; done) | (rw [htr, hb]; done), rfl, rfl, rfl, rfl, rfl⟩
  · skip
    rw [h20] at c8
    have d8 : rs.1 < 20 := Nat.lt_of_not_le fun q => c8 (nI_le q (by omega))
    refine z_al0 g dX4_trace_11 ?_
    refine zg4_20 g q1262 (Or.inl rfl) (by assumption) dX4_trace_12 ?_
    refine z_goto (tgt := 20) g dX4_trace_15 (by decide) ?_
    first
      | refine z_top (show _ = (nI (if rs.1 < 20 then rs.1 else 20)) from by rw [if_neg d8]) ?_
      | refine z_top (show _ = (nI (if rs.1 < 20 then rs.1 else 20)) from by rw [if_pos d8]; exact h20) ?_
    refine z_iconst g dX4_trace_20 zki_1 ?_
    first | with_reducible refine z_isubN g dX4_trace_21 (by omega) ?_ | refine z_isub g dX4_trace_21 ?_
    refine z_callS3 g ck_X4_in q1319 q1320 c_X4_in rfl (Nat.le_of_ble_eq_true rfl) (by omega) (by omega) (by omega) dX4_trace_22 (z_ans1 ?_)
    refine z_ifb_eq (tgt := 37) g dX4_trace_25 (by decide) (fun c25 => ?_) (fun c25 => ?_)
    · skip
      rw [if_neg (by simp [c25])] at htr
      refine z_iconst g dX4_trace_37 zki_m1 ?_
      refine z_iret g r (by omega) (by omega) dX4_trace_38 ?_
      exact ⟨by first | (rw [htr]; done) | (rw [htr, hb]; done), rfl, rfl, rfl, rfl, rfl⟩
    · skip
      rw [if_pos c25] at htr
      obtain ⟨j, hj, rfl⟩ := inB_pred c25 (by split <;> omega)
      have hj20 : j < 20 := by
        by_cases q : rs.1 < 20
        · rw [if_pos q] at hj; omega
        · rw [if_neg q] at hj; exact hj
      rw [cl_nI (by omega)] at htr
      refine z_al0 g dX4_trace_28 ?_
      refine zg4_19 g q1261 (Or.inl rfl) (by assumption) dX4_trace_29 (by assumption) ?_
      refine z_il1 g dX4_trace_32 ?_
      refine z_iald (k := 0) g rfl (by assumption) (by omega) (by omega) dX4_trace_33 ?_
      refine z_goto (tgt := 38) g dX4_trace_34 (by decide) ?_
      refine z_iret g r (by omega) (by omega) dX4_trace_38 ?_
      exact ⟨by first | (rw [htr]; done) | (rw [htr, hb]; done), rfl, rfl, rfl, rfl, rfl⟩

set_option maxHeartbeats 4000000 in
theorem c_X4_as {E : ZE} {n : Nat} {T : ZT} {I : ZI} {L : ZL} {R : ZR} {t : Nat} (hL : TL T R t) {np : Nat} (hN : I (t + 1) 6 = nI np) (hnp : np ≤ 5) {p k : Int32} : zM E yX4_as cX4_as 3 (some (Jvm.ClassFile.FieldType.int)) 2 0 0 [.ref t, .int p, .int k] n T I L R (zis (some (.int (asF (I (t + 1)) p k))) n T I L R) := by
  refine zM.of (lv0 := [some (.ref t), some (.int p), some (.int k)]) pn_X4 (Nat.le_of_ble_eq_true rfl) rfl fun G g r hin hlt hbn => ?_
  have g : zGd E G cX4_as RX4 3 2 0 0 := g
  have hL0 := hL
  obtain ⟨hT, h1, ht1, h2, ht2, h3, ht3, h10, ht4, h11, ht5, ht6, ht7, h16, ht8, h17, ht9, h19, ht10⟩ := hL0
  refine z_al0 g dX4_as_0 ?_
  refine z_il1 g dX4_as_1 ?_
  refine z_callV1 g ck_X4_isPlayer q1438 q1440 qs50 cls4 (by assumption) (c_X4_isPlayer hL) rfl (Nat.le_of_ble_eq_true rfl) (by omega) (by omega) (by omega) dX4_as_2 (z_ans1 ?_)
  refine z_ifb_eq (tgt := 18) g dX4_as_5 (by decide) (fun c5 => ?_) (fun c5 => ?_)
  · skip
    refine z_iconst g dX4_as_18 zki_m1 ?_
    refine z_iret g r (by omega) (by omega) dX4_as_19 ?_
    exact ⟨by first | (simp [asF, *]; done) | (simp_all [asF]; done), rfl, rfl, rfl, rfl, rfl⟩
  · skip
    obtain ⟨pn, pn_lt, rfl⟩ := isPl_of c5 hN hnp
    have pnc : (nI pn).toNatClampNeg = pn := cl_nI (by omega)
    refine z_il2 g dX4_as_8 ?_
    refine z_iconst g dX4_as_9 zki_0 ?_
    refine z_bipush g dX4_as_10 zkb_6 ?_
    refine z_callS3 g ck_X4_in q1319 q1320 c_X4_in rfl (Nat.le_of_ble_eq_true rfl) (by omega) (by omega) (by omega) dX4_as_12 (z_ans1 ?_)
    refine z_ifb_ne (tgt := 20) g dX4_as_15 (by decide) (fun c15 => ?_) (fun c15 => ?_)
    · skip
      refine z_al0 g dX4_as_20 ?_
      refine zg4_1 g q1243 (Or.inl rfl) (by assumption) dX4_as_21 (by assumption) ?_
      refine z_bipush g dX4_as_24 zkb_12 ?_
      refine z_il1 g dX4_as_26 ?_
      first | with_reducible refine z_iaddN g dX4_as_27 ?_ | refine z_iadd g dX4_as_27 ?_
      refine z_iald (k := 0) g rfl (by assumption) (by omega) (by omega) dX4_as_28 ?_
      refine z_il2 g dX4_as_29 ?_
      refine z_callS2 g ck_X4_isUnder q1635 q1636 c_X4_isUnder rfl (Nat.le_of_ble_eq_true rfl) (by omega) (by omega) (by omega) dX4_as_30 (z_ans1 ?_)
      refine z_ifb_eq (tgt := 48) g dX4_as_33 (by decide) (fun c33 => ?_) (fun c33 => ?_)
      · skip
        refine z_bipush g dX4_as_48 zkb_m6 ?_
        refine z_iret g r (by omega) (by omega) dX4_as_50 ?_
        exact ⟨by first | (simp [asF, *]; done) | (simp_all [asF]; done), rfl, rfl, rfl, rfl, rfl⟩
      · skip
        refine z_al0 g dX4_as_36 ?_
        refine zg4_1 g q1243 (Or.inl rfl) (by assumption) dX4_as_37 (by assumption) ?_
        refine z_bipush g dX4_as_40 zkb_17 ?_
        refine z_il1 g dX4_as_42 ?_
        first | with_reducible refine z_iaddN g dX4_as_43 ?_ | refine z_iadd g dX4_as_43 ?_
        refine z_iald (k := 0) g rfl (by assumption) (by omega) (by omega) dX4_as_44 ?_
        refine z_goto (tgt := 50) g dX4_as_45 (by decide) ?_
        refine z_iret g r (by omega) (by omega) dX4_as_50 ?_
        exact ⟨by first | (simp [asF, *]; done) | (simp_all [asF]; done), rfl, rfl, rfl, rfl, rfl⟩
    · skip
      refine z_iconst g dX4_as_18 zki_m1 ?_
      refine z_iret g r (by omega) (by omega) dX4_as_19 ?_
      exact ⟨by first | (simp [asF, *]; done) | (simp_all [asF]; done), rfl, rfl, rfl, rfl, rfl⟩

set_option maxHeartbeats 4000000 in
theorem c_X4_image {E : ZE} {n : Nat} {T : ZT} {I : ZI} {L : ZL} {R : ZR} {t : Nat} (hL : TL T R t) : zM E yX4_image cX4_image 2 (some (Jvm.ClassFile.FieldType.int)) 0 0 0 [.ref t] n T I L R (zis (some (.int (I (t + 1) 6))) n T (zp (zp I (t + 2) (zfst 889 (I (t + 1)) (I (t + 2)))) t (zp (I t) 4 (nI 1))) L R) := by
  refine zM.of (lv0 := [some (.ref t), none]) pn_X4 (Nat.le_of_ble_eq_true rfl) rfl fun G g r hin hlt hbn => ?_
  have g : zGd E G cX4_image RX4 2 0 0 0 := g
  have hL0 := hL
  obtain ⟨hT, h1, ht1, h2, ht2, h3, ht3, h10, ht4, h11, ht5, ht6, ht7, h16, ht8, h17, ht9, h19, ht10⟩ := hL0
  have loop : ∀ m k : Nat, k + m = 889 → Z E G 0 0 n T (zp I (t + 2) (zfst k (I (t + 1)) (I (t + 2)))) L R 2 [some (.ref t), some (.int (nI k))] [] := by
    intro m
    induction m with
    | zero =>
      intro k hk
      obtain rfl : k = 889 := by omega
      refine z_il1 g dX4_image_2 ?_
      refine z_sipush g dX4_image_3 zks_889 ?_
      refine z_icmp_ge_t (tgt := 27) g dX4_image_6 (by decide) (Int32.le_refl _) ?_
      refine z_al0 g dX4_image_27 ?_
      refine z_iconst g dX4_image_28 zki_1 ?_
      refine zs4_4 g q1246 (Or.inl rfl) (by assumption) dX4_image_29 zfit_1 ?_
      refine z_al0 g dX4_image_32 ?_
      refine zg4_1 g q1243 (Or.inl rfl) (by assumption) dX4_image_33 (by assumption) ?_
      refine z_bipush g dX4_image_36 zkb_6 ?_
      refine z_iald (k := 0) g rfl (by assumption) (by omega) (by omega) dX4_image_38 ?_
      refine z_iret g r (by omega) (by omega) dX4_image_39 ?_
      exact ⟨by rw [zp_n (by omega), zp_n (by omega)], rfl, rfl, by rw [zp_n (show t ≠ t + 2 by omega)], rfl, rfl⟩
    | succ m ih =>
      intro k hk
      refine z_il1 g dX4_image_2 ?_
      refine z_sipush g dX4_image_3 zks_889 ?_
      refine z_icmp_ge_f (tgt := 27) g dX4_image_6 (by decide) (nI_ge (by omega) (by omega)) ?_
      refine z_al0 g dX4_image_9 ?_
      refine zg4_2 g q1244 (Or.inl rfl) (by assumption) dX4_image_10 (by assumption) ?_
      refine z_il1 g dX4_image_13 ?_
      refine z_al0 g dX4_image_14 ?_
      refine zg4_1 g q1243 (Or.inl rfl) (by assumption) dX4_image_15 (by assumption) ?_
      refine z_il1 g dX4_image_18 ?_
      refine z_iald (k := 0) g rfl (by assumption) (by omega) (by omega) dX4_image_19 ?_
      refine z_iast (k := 0) g rfl (by decide) (by assumption) (by omega) (by omega) dX4_image_20 ?_
      rw [show zp (zp I (t + 2) (zfst k (I (t + 1)) (I (t + 2)))) (t + 2) (zp ((zp I (t + 2) (zfst k (I (t + 1)) (I (t + 2)))) (t + 2)) k ((zp I (t + 2) (zfst k (I (t + 1)) (I (t + 2)))) (t + 1) k)) = zp I (t + 2) (zfst (k + 1) (I (t + 1)) (I (t + 2))) by rw [zp_zp, zp_s, zp_n (by omega), zfst_put]]
      first | with_reducible refine z_inc1 g dX4_image_21 (zinc1 _) rfl ?_ | refine z_inc1 g dX4_image_21 rfl rfl ?_
      refine z_goto (tgt := 2) g dX4_image_24 (by decide) ?_
      exact ih (k + 1) (by omega)
  refine z_iconst g dX4_image_0 zki_0 ?_
  refine z_is1 g dX4_image_1 rfl ?_
  have h := loop 889 0 rfl
  rw [zfst_0, zp_self] at h
  exact h

set_option maxHeartbeats 4000000 in
theorem c_X4_undo {E : ZE} {n : Nat} {T : ZT} {I : ZI} {L : ZL} {R : ZR} {t : Nat} (hL : TL T R t) : zM E yX4_undo cX4_undo 2 (some (Jvm.ClassFile.FieldType.int)) 0 0 0 [.ref t] n T I L R (zis (some (.int (if I t 4 = 0 then -3 else I (t + 2) 6))) n T (if I t 4 = 0 then I else (zp I (t + 1) (zfst 889 (I (t + 2)) (I (t + 1))))) L R) := by
  refine zM.of (lv0 := [some (.ref t), none]) pn_X4 (Nat.le_of_ble_eq_true rfl) rfl fun G g r hin hlt hbn => ?_
  have g : zGd E G cX4_undo RX4 2 0 0 0 := g
  have hL0 := hL
  obtain ⟨hT, h1, ht1, h2, ht2, h3, ht3, h10, ht4, h11, ht5, ht6, ht7, h16, ht8, h17, ht9, h19, ht10⟩ := hL0
  refine z_al0 g dX4_undo_0 ?_
  refine zg4_4 g q1246 (Or.inl rfl) (by assumption) dX4_undo_1 ?_
  refine z_if_ne (tgt := 10) g dX4_undo_4 (by decide) (fun c4 => ?_) (fun c4 => ?_)
  · skip
    refine z_iconst g dX4_undo_10 zki_0 ?_
    refine z_is1 g dX4_undo_11 rfl ?_
    have loop : ∀ m k : Nat, k + m = 889 → Z E G 0 0 n T (zp I (t + 1) (zfst k (I (t + 2)) (I (t + 1)))) L R 12 [some (.ref t), some (.int (nI k))] [] := by
      intro m
      induction m with
      | zero =>
        intro k hk
        obtain rfl : k = 889 := by omega
        refine z_il1 g dX4_undo_12 ?_
        refine z_sipush g dX4_undo_13 zks_889 ?_
        refine z_icmp_ge_t (tgt := 37) g dX4_undo_16 (by decide) (Int32.le_refl _) ?_
        refine z_al0 g dX4_undo_37 ?_
        refine zg4_1 g q1243 (Or.inl rfl) (by assumption) dX4_undo_38 (by assumption) ?_
        refine z_bipush g dX4_undo_41 zkb_6 ?_
        refine z_iald (k := 0) g rfl (by assumption) (by omega) (by omega) dX4_undo_43 ?_
        refine z_iret g r (by omega) (by omega) dX4_undo_44 ?_
        exact ⟨by rw [if_neg c4, zp_s]; rfl, rfl, rfl, by rw [if_neg c4], rfl, rfl⟩
      | succ m ih =>
        intro k hk
        refine z_il1 g dX4_undo_12 ?_
        refine z_sipush g dX4_undo_13 zks_889 ?_
        refine z_icmp_ge_f (tgt := 37) g dX4_undo_16 (by decide) (nI_ge (by omega) (by omega)) ?_
        refine z_al0 g dX4_undo_19 ?_
        refine zg4_1 g q1243 (Or.inl rfl) (by assumption) dX4_undo_20 (by assumption) ?_
        refine z_il1 g dX4_undo_23 ?_
        refine z_al0 g dX4_undo_24 ?_
        refine zg4_2 g q1244 (Or.inl rfl) (by assumption) dX4_undo_25 (by assumption) ?_
        refine z_il1 g dX4_undo_28 ?_
        refine z_iald (k := 0) g rfl (by assumption) (by omega) (by omega) dX4_undo_29 ?_
        refine z_iast (k := 0) g rfl (by decide) (by assumption) (by omega) (by omega) dX4_undo_30 ?_
        rw [show zp (zp I (t + 1) (zfst k (I (t + 2)) (I (t + 1)))) (t + 1) (zp ((zp I (t + 1) (zfst k (I (t + 2)) (I (t + 1)))) (t + 1)) k ((zp I (t + 1) (zfst k (I (t + 2)) (I (t + 1)))) (t + 2) k)) = zp I (t + 1) (zfst (k + 1) (I (t + 2)) (I (t + 1))) by rw [zp_zp, zp_s, zp_n (by omega), zfst_put]]
        first | with_reducible refine z_inc1 g dX4_undo_31 (zinc1 _) rfl ?_ | refine z_inc1 g dX4_undo_31 rfl rfl ?_
        refine z_goto (tgt := 12) g dX4_undo_34 (by decide) ?_
        exact ih (k + 1) (by omega)
    have h := loop 889 0 rfl
    rw [zfst_0, zp_self] at h
    exact h
  · skip
    refine z_bipush g dX4_undo_7 zkb_m3 ?_
    refine z_iret g r (by omega) (by omega) dX4_undo_9 ?_
    exact ⟨by rw [if_pos c4], rfl, rfl, by rw [if_pos c4], rfl, rfl⟩

