/-! ===== the twin: acts, the image ===== -/
set_option maxRecDepth 100000
set_option maxHeartbeats 4000000 in
theorem c_X4_isUnder {E : ZE} {n : Nat} {T : ZT} {I : ZI} {L : ZL} {R : ZR} {kd k : Int32} : zM E yX4_isUnder cX4_isUnder 2 (some (Jvm.ClassFile.FieldType.boolean)) 0 0 0 [.int kd, .int k] n T I L R (zis (some (.int (zb (underB kd k)))) n T I L R) := by
  refine zM.of (lv0 := [some (.int kd), some (.int k)]) pn_X4 (Nat.le_of_ble_eq_true rfl) rfl fun G g r hin hlt hbn => ?_
  have g : zGd E G cX4_isUnder RX4 2 0 0 0 := g
  refine z_il1 g dX4_isUnder_0 ?_
  refine z_if_eq (tgt := 25) g dX4_isUnder_1 (by decide) (fun c1 => ?_) (fun c1 => ?_)
  · skip
    refine z_iconst g dX4_isUnder_25 zki_1 ?_
    refine z_goto (tgt := 30) g dX4_isUnder_26 (by decide) ?_
    refine z_zret g r (by omega) (by omega) zfit_1.1 dX4_isUnder_30 ?_
    exact ⟨by first | (simp [underB, zb, *]; done) | (simp_all [underB, zb]; done), rfl, rfl, rfl, rfl, rfl⟩
  · skip
    refine z_il1 g dX4_isUnder_4 ?_
    refine z_il0 g dX4_isUnder_5 ?_
    refine z_icmp_eq (tgt := 25) g dX4_isUnder_6 (by decide) (fun c6 => ?_) (fun c6 => ?_)
    · skip
      refine z_iconst g dX4_isUnder_25 zki_1 ?_
      refine z_goto (tgt := 30) g dX4_isUnder_26 (by decide) ?_
      refine z_zret g r (by omega) (by omega) zfit_1.1 dX4_isUnder_30 ?_
      exact ⟨by first | (simp [underB, zb, *]; done) | (simp_all [underB, zb]; done), rfl, rfl, rfl, rfl, rfl⟩
    · skip
      refine z_il1 g dX4_isUnder_9 ?_
      refine z_if_le (tgt := 29) g dX4_isUnder_10 (by decide) (fun c10 => ?_) (fun c10 => ?_)
      · skip
        have c10 := Int32.not_lt.mpr c10
        refine z_iconst g dX4_isUnder_29 zki_0 ?_
        refine z_zret g r (by omega) (by omega) zfit_0.1 dX4_isUnder_30 ?_
        exact ⟨by first | (simp [underB, zb, *]; done) | (simp_all [underB, zb]; done), rfl, rfl, rfl, rfl, rfl⟩
      · skip
        have c10 := Int32.not_le.mp c10
        refine z_il1 g dX4_isUnder_13 ?_
        refine z_iconst g dX4_isUnder_14 zki_4 ?_
        refine z_icmp_ge (tgt := 29) g dX4_isUnder_15 (by decide) (fun c15 => ?_) (fun c15 => ?_)
        · skip
          have c15 := Int32.not_lt.mpr c15
          refine z_iconst g dX4_isUnder_29 zki_0 ?_
          refine z_zret g r (by omega) (by omega) zfit_0.1 dX4_isUnder_30 ?_
          exact ⟨by first | (simp [underB, zb, *]; done) | (simp_all [underB, zb]; done), rfl, rfl, rfl, rfl, rfl⟩
        · skip
          have c15 := Int32.not_le.mp c15
          refine z_il0 g dX4_isUnder_18 ?_
          refine z_il1 g dX4_isUnder_19 ?_
          refine z_iconst g dX4_isUnder_20 zki_3 ?_
          first | with_reducible refine z_iaddN g dX4_isUnder_21 ?_ | refine z_iadd g dX4_isUnder_21 ?_
          refine z_icmp_ne (tgt := 29) g dX4_isUnder_22 (by decide) (fun c22 => ?_) (fun c22 => ?_)
          · skip
            refine z_iconst g dX4_isUnder_29 zki_0 ?_
            refine z_zret g r (by omega) (by omega) zfit_0.1 dX4_isUnder_30 ?_
            exact ⟨by first | (simp [underB, zb, *]; done) | (simp_all [underB, zb]; done), rfl, rfl, rfl, rfl, rfl⟩
          · skip
            refine z_iconst g dX4_isUnder_25 zki_1 ?_
            refine z_goto (tgt := 30) g dX4_isUnder_26 (by decide) ?_
            refine z_zret g r (by omega) (by omega) zfit_1.1 dX4_isUnder_30 ?_
            exact ⟨by first | (simp [underB, zb, *]; done) | (simp_all [underB, zb]; done), rfl, rfl, rfl, rfl, rfl⟩

set_option maxHeartbeats 4000000 in
theorem c_X4_ranBody {E : ZE} {n : Nat} {T : ZT} {I : ZI} {L : ZL} {R : ZR} {t : Nat} (hL : TL T R t) {s : RS} {b : Nat} (hb : b < 100) (hr : s.1 < 1000) : zM E yX4_ranBody cX4_ranBody 2 none 0 0 0 [.ref t, .int (nI b)] n T (mA t I s) L R (zis none n T (mA t I (rbF b s)) L R) := by
  refine zM.of (lv0 := [some (.ref t), some (.int (nI b))]) pn_X4 (Nat.le_of_ble_eq_true rfl) rfl fun G g r hin hlt hbn => ?_
  have g : zGd E G cX4_ranBody RX4 2 0 0 0 := g
  have hL0 := hL
  obtain ⟨hT, h1, ht1, h2, ht2, h3, ht3, h10, ht4, h11, ht5, ht6, ht7, h16, ht8, h17, ht9, h19, ht10⟩ := hL0
  refine z_al0 g dX4_ranBody_0 ?_
  refine zg4_20 g q1262 (Or.inl rfl) (by assumption) dX4_ranBody_1 ?_
  refine z_bipush g dX4_ranBody_4 zkb_20 ?_
  refine z_icmp_ge (tgt := 19) g dX4_ranBody_6 (by decide) (fun c6 => ?_) (fun c6 => ?_)
  · skip
    rw [mA_20] at c6
    have hs : ¬ s.1 < 20 := fun q => nI_ge q (by decide) c6
    refine z_al0 g dX4_ranBody_19 ?_
    refine z_dup g dX4_ranBody_20 rfl ?_
    refine zg4_20 g q1262 (Or.inl rfl) (by assumption) dX4_ranBody_21 ?_
    first
      | refine z_top (show _ = nI s.1 from mA_20) ?_
      | refine z_top (show _ = nI s.1 from by rw [zp_n (show t ≠ t + 10 by omega)]; exact mA_20) ?_
    refine z_iconst g dX4_ranBody_24 zki_1 ?_
    first | with_reducible refine z_iaddN g dX4_ranBody_25 ?_ | refine z_iadd g dX4_ranBody_25 ?_
    refine zs4_20 g q1262 (Or.inl rfl) (by assumption) dX4_ranBody_26 ?_
    refine z_vret g r (by omega) (by omega) dX4_ranBody_29 ?_
    refine ⟨rfl, rfl, rfl, ?_, rfl, rfl⟩
    first
      | (rw [show mA t I (rbF b s) = _ from mA_up.symm, show (rbF b s).2 = zp s.2 s.1 (nI b) from if_pos hs, mA_b, zp_n (show t ≠ t + 10 by omega)]; rfl)
      | (rw [show mA t I (rbF b s) = _ from mA_up.symm, show (rbF b s).2 = s.2 from if_neg hs, ← mA_b (t := t) (I := I) (s := s), zp_self]; rfl)
  · skip
    rw [mA_20] at c6
    have hs : s.1 < 20 := Nat.lt_of_not_le fun q => c6 (nI_le q (by omega))
    refine z_al0 g dX4_ranBody_9 ?_
    refine zg4_19 g q1261 (Or.inl rfl) (by assumption) dX4_ranBody_10 (by assumption) ?_
    refine z_al0 g dX4_ranBody_13 ?_
    refine zg4_20 g q1262 (Or.inl rfl) (by assumption) dX4_ranBody_14 ?_
    refine z_top (show _ = nI s.1 from mA_20) ?_
    refine z_il1 g dX4_ranBody_17 ?_
    refine z_iast (k := 0) g rfl (by decide) (by assumption) (by omega) (by omega) dX4_ranBody_18 ?_
    refine z_al0 g dX4_ranBody_19 ?_
    refine z_dup g dX4_ranBody_20 rfl ?_
    refine zg4_20 g q1262 (Or.inl rfl) (by assumption) dX4_ranBody_21 ?_
    first
      | refine z_top (show _ = nI s.1 from mA_20) ?_
      | refine z_top (show _ = nI s.1 from by rw [zp_n (show t ≠ t + 10 by omega)]; exact mA_20) ?_
    refine z_iconst g dX4_ranBody_24 zki_1 ?_
    first | with_reducible refine z_iaddN g dX4_ranBody_25 ?_ | refine z_iadd g dX4_ranBody_25 ?_
    refine zs4_20 g q1262 (Or.inl rfl) (by assumption) dX4_ranBody_26 ?_
    refine z_vret g r (by omega) (by omega) dX4_ranBody_29 ?_
    refine ⟨rfl, rfl, rfl, ?_, rfl, rfl⟩
    first
      | (rw [show mA t I (rbF b s) = _ from mA_up.symm, show (rbF b s).2 = zp s.2 s.1 (nI b) from if_pos hs, mA_b, zp_n (show t ≠ t + 10 by omega)]; rfl)
      | (rw [show mA t I (rbF b s) = _ from mA_up.symm, show (rbF b s).2 = s.2 from if_neg hs, ← mA_b (t := t) (I := I) (s := s), zp_self]; rfl)

