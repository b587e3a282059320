/-! ===== the twin: order, orderMean ===== -/
set_option maxRecDepth 100000
set_option maxHeartbeats 4000000 in
theorem c_X4_isSet {E : ZE} {n : Nat} {T : ZT} {I : ZI} {L : ZL} {R : ZR} {t : Nat} (hL : TL T R t) {p v : Int32} : zM E yX4_isSet cX4_isSet 3 (some (Jvm.ClassFile.FieldType.boolean)) 0 0 0 [.ref t, .int p, .int v] n T I L R (zis (some (.int (zb (isSetB (I (t + 1)) p v)))) n T I L R) := by
  refine zM.of (lv0 := [some (.ref t), some (.int p), some (.int v)]) pn_X4 (Nat.le_of_ble_eq_true rfl) rfl fun G g r hin hlt hbn => ?_
  have g : zGd E G cX4_isSet RX4 3 0 0 0 := g
  have hL0 := hL
  obtain ⟨hT, h1, ht1, h2, ht2, h3, ht3, h10, ht4, h11, ht5, ht6, ht7, h16, ht8, h17, ht9, h19, ht10⟩ := hL0
  refine z_il2 g dX4_isSet_0 ?_
  refine z_if_lt (tgt := 28) g dX4_isSet_1 (by decide) (fun c1 => ?_) (fun c1 => ?_)
  · skip
    refine z_iconst g dX4_isSet_28 zki_0 ?_
    refine z_zret g r (by omega) (by omega) zfit_0.1 dX4_isSet_29 ?_
    exact ⟨by first | (simp [isSetB, zb, *]; done) | (simp_all [isSetB, zb]; done), rfl, rfl, rfl, rfl, rfl⟩
  · skip
    refine z_il2 g dX4_isSet_4 ?_
    refine z_al0 g dX4_isSet_5 ?_
    refine zg4_1 g q1243 (Or.inl rfl) (by assumption) dX4_isSet_6 (by assumption) ?_
    refine z_bipush g dX4_isSet_9 zkb_6 ?_
    refine z_iald (k := 0) g rfl (by assumption) (by omega) (by omega) dX4_isSet_11 ?_
    refine z_ishr g dX4_isSet_12 ?_
    refine z_if_ne (tgt := 28) g dX4_isSet_13 (by decide) (fun c13 => ?_) (fun c13 => ?_)
    · skip
      refine z_iconst g dX4_isSet_28 zki_0 ?_
      refine z_zret g r (by omega) (by omega) zfit_0.1 dX4_isSet_29 ?_
      exact ⟨by first | (simp [isSetB, zb, *]; done) | (simp_all [isSetB, zb]; done), rfl, rfl, rfl, rfl, rfl⟩
    · skip
      refine z_il2 g dX4_isSet_16 ?_
      refine z_il1 g dX4_isSet_17 ?_
      refine z_ishr g dX4_isSet_18 ?_
      refine z_iconst g dX4_isSet_19 zki_1 ?_
      refine z_iand g dX4_isSet_20 ?_
      refine z_if_ne (tgt := 28) g dX4_isSet_21 (by decide) (fun c21 => ?_) (fun c21 => ?_)
      · skip
        refine z_iconst g dX4_isSet_28 zki_0 ?_
        refine z_zret g r (by omega) (by omega) zfit_0.1 dX4_isSet_29 ?_
        exact ⟨by first | (simp [isSetB, zb, *]; done) | (simp_all [isSetB, zb]; done), rfl, rfl, rfl, rfl, rfl⟩
      · skip
        refine z_iconst g dX4_isSet_24 zki_1 ?_
        refine z_goto (tgt := 29) g dX4_isSet_25 (by decide) ?_
        refine z_zret g r (by omega) (by omega) zfit_1.1 dX4_isSet_29 ?_
        exact ⟨by first | (simp [isSetB, zb, *]; done) | (simp_all [isSetB, zb]; done), rfl, rfl, rfl, rfl, rfl⟩

set_option maxHeartbeats 4000000 in
theorem c_X4_looksForOrder {E : ZE} {n : Nat} {T : ZT} {I : ZI} {L : ZL} {R : ZR} {t : Nat} (hL : TL T R t) {np : Nat} (hN : I (t + 1) 6 = nI np) (hnp : np ≤ 5) (hO : oddOK (I (t + 1))) (hg : gok 16 (I (t + 1))) {p m : Nat} (hp : p < 5) (hm : m < 32) (hpc : pcN m ≤ 4) : zM E yX4_looksForOrder cX4_looksForOrder 3 none 48 0 0 [.ref t, .int (nI p), .int (nI m)] n T I L R (zor t (looksF (I (t + 1)) p m (I (t + 8)) (I (t + 9))) n T I L R) := by
  refine zM.of (lv0 := [some (.ref t), some (.int (nI p)), some (.int (nI m))]) pn_X4 (Nat.le_of_ble_eq_true rfl) rfl fun G g r hin hlt hbn => ?_
  have g : zGd E G cX4_looksForOrder RX4 3 48 0 0 := g
  have hL0 := hL
  obtain ⟨hT, h1, ht1, h2, ht2, h3, ht3, h10, ht4, h11, ht5, ht6, ht7, h16, ht8, h17, ht9, h19, ht10⟩ := hL0
  refine z_al0 g dX4_looksForOrder_0 ?_
  refine z_ldc2 g q1578 dX4_looksForOrder_1 ?_
  have hk0 : ordOK 0 (I (t + 8)) := fun j hj => absurd hj (Nat.not_lt_zero _)
  have hz := c_X4_ordersFrom (E := E) (n := n) hL hp hnp (m + 1) m 0 I (zp L t (zp (L t) 18 (-1))) hm (Nat.lt_succ_self m) (by omega) hk0 hN hO (gok_le hg (by omega))
  rw [show (zp L t (zp (L t) 18 (-1))) t 18 = -1 from by rw [zp_s, zp_s]] at hz
  refine zs4_18 g q1260 (Or.inl rfl) (by assumption) dX4_looksForOrder_4 ?_
  refine z_al0 g dX4_looksForOrder_7 ?_
  refine z_il1 g dX4_looksForOrder_8 ?_
  refine z_il2 g dX4_looksForOrder_9 ?_
  refine z_iconst g dX4_looksForOrder_10 zki_0 ?_
  refine z_callV3 g ck_X4_ordersFrom q1579 q1581 qs68 cls4 (by assumption) hz rfl (Nat.le_of_ble_eq_true rfl) (by omega) (by omega) (by omega) dX4_looksForOrder_11 (z_ex fun I1 g1 => z_ans0 ?_)
  refine z_vret g r (by omega) (by omega) dX4_looksForOrder_14 ?_
  simp only [zp_zp, zp_s]
  unfold looksF
  rw [hN, cl_nI (show np < 2 ^ 31 by omega)]
  exact ⟨I1, g1, rfl, rfl, rfl, rfl, rfl, rfl⟩

theorem m_small {m np : Nat} (h : m < 2 ^ np) (hnp : np ≤ 5) : m < 32 := Nat.lt_of_lt_of_le h (Nat.pow_le_pow_right (n := 2) (by decide) hnp)
theorem pcN_4d : ∀ np : Nat, np ≤ 5 → ∀ m : Nat, m < 32 → ∀ p : Nat, p < np → m < 2 ^ np → (nI m >>> (nI p &&& 31)) &&& nI 1 = 0 → pcN m ≤ 4 := by decide +kernel
theorem pcN_4 {sv : SV} {m np p : Nat} (h : m < 2 ^ np) (hnp : np ≤ 5) (hN : sv 6 = nI np) (hp : p < np) (hs : isSetB sv (nI p) (nI m) = true) : pcN m ≤ 4 := by
  unfold isSetB at hs
  simp only [Bool.and_eq_true, Bool.not_eq_true', decide_eq_false_iff_not, decide_eq_true_eq] at hs
  exact pcN_4d np hnp m (m_small h hnp) p hp h hs.2
set_option maxHeartbeats 4000000 in
theorem c_X4_order {E : ZE} {n : Nat} {T : ZT} {I : ZI} {L : ZL} {R : ZR} {t : Nat} (hL : TL T R t) {np : Nat} (hN : I (t + 1) 6 = nI np) (hnp : np ≤ 5) (hO : oddOK (I (t + 1))) (hg : gok 16 (I (t + 1))) {p v k : Int32} : zM E yX4_order cX4_order 4 (some (Jvm.ClassFile.FieldType.int)) 50 0 0 [.ref t, .int p, .int v, .int k] n T I L R (zex (fun w : ZI × ZL => zag (T8 t) I w.1 ∧ zag (fun x => x = t) L w.2 ∧ w.2 t 14 = L t 14) (fun w => zis (some (.int (orderF (I (t + 1)) (I (t + 8)) (I (t + 9)) p v k))) n T w.1 w.2 R)) := by
  refine zM.of (lv0 := [some (.ref t), some (.int p), some (.int v), some (.int k)]) pn_X4 (Nat.le_of_ble_eq_true rfl) rfl fun G g r hin hlt hbn => ?_
  have g : zGd E G cX4_order RX4 4 50 0 0 := g
  have hL0 := hL
  obtain ⟨hT, h1, ht1, h2, ht2, h3, ht3, h10, ht4, h11, ht5, ht6, ht7, h16, ht8, h17, ht9, h19, ht10⟩ := hL0
  refine z_al0 g dX4_order_0 ?_
  refine z_il1 g dX4_order_1 ?_
  refine z_callV1 g ck_X4_isPlayer q1438 q1440 qs50 cls4 (by assumption) (c_X4_isPlayer hL) rfl (Nat.le_of_ble_eq_true rfl) (by omega) (by omega) (by omega) dX4_order_2 (z_ans1 ?_)
  refine z_ifb_eq (tgt := 17) g dX4_order_5 (by decide) (fun c5 => ?_) (fun c5 => ?_)
  · skip
    refine z_iconst g dX4_order_17 zki_m1 ?_
    refine z_iret g r (by omega) (by omega) dX4_order_18 ?_
    exact ⟨(I, L), ⟨zag.rf, zag.rf, rfl⟩, by first | (simp [orderF, *]; done) | (simp_all [orderF]; done), rfl, rfl, rfl, rfl, rfl⟩
  · skip
    obtain ⟨pn, pn_lt, rfl⟩ := isPl_of c5 hN hnp
    have pnc : (nI pn).toNatClampNeg = pn := cl_nI (by omega)
    refine z_il3 g dX4_order_8 ?_
    refine z_iconst g dX4_order_9 zki_0 ?_
    refine z_iconst g dX4_order_10 zki_3 ?_
    refine z_callS3 g ck_X4_in q1319 q1320 c_X4_in rfl (Nat.le_of_ble_eq_true rfl) (by omega) (by omega) (by omega) dX4_order_11 (z_ans1 ?_)
    refine z_ifb_ne (tgt := 19) g dX4_order_14 (by decide) (fun c14 => ?_) (fun c14 => ?_)
    · skip
      obtain ⟨kn, kn_ge, kn_le, rfl⟩ := inB_of c14 (by decide) (by decide)
      have knc : (nI kn).toNatClampNeg = kn := cl_nI (by omega)
      refine z_al0 g dX4_order_19 ?_
      refine z_il1 g dX4_order_20 ?_
      refine z_il2 g dX4_order_21 ?_
      refine z_callV2 g ck_X4_isSet q1570 q1572 qs66 cls4 (by assumption) (c_X4_isSet hL) rfl (Nat.le_of_ble_eq_true rfl) (by omega) (by omega) (by omega) dX4_order_22 (z_ans1 ?_)
      refine z_ifb_ne (tgt := 31) g dX4_order_25 (by decide) (fun c25 => ?_) (fun c25 => ?_)
      · skip
        obtain ⟨m, hm0, rfl⟩ := isSet_of c25 hN hnp
        have hm := m_small hm0 hnp
        have mc : (nI m).toNatClampNeg = m := cl_nI (by omega)
        have hpc := pcN_4 hm0 hnp hN pn_lt c25
        have hlk := c_X4_looksForOrder (E := E) (n := n) (L := L) hL hN hnp hO hg (show pn < 5 by omega) hm hpc
        refine z_al0 g dX4_order_31 ?_
        refine z_il1 g dX4_order_32 ?_
        refine z_il2 g dX4_order_33 ?_
        refine z_callV2 g ck_X4_looksForOrder q1574 q1576 qs67 cls4 (by assumption) hlk rfl (Nat.le_of_ble_eq_true rfl) (by omega) (by omega) (by omega) dX4_order_34 (z_ex fun I1 g1 => z_ans0 ?_)
        refine z_al0 g dX4_order_37 ?_
        refine zg4_17 g q1259 (Or.inl rfl) (by assumption) dX4_order_38 (by assumption) ?_
        refine z_il3 g dX4_order_41 ?_
        refine z_iald (k := 0) g rfl (by assumption) (by omega) (by omega) dX4_order_42 ?_
        refine z_iret g r (by omega) (by omega) dX4_order_43 ?_
        refine ⟨(I1, _), ⟨g1.1, zag.rf.put rfl, by show zp L t (zp (L t) 18 _) t 14 = _; rw [zp_s, zp_n (by decide)]⟩, ?_, rfl, rfl, rfl, rfl, rfl⟩
        simp [orderF, zb, g1.2.2, *]
      · skip
        refine z_bipush g dX4_order_28 zkb_m2 ?_
        refine z_iret g r (by omega) (by omega) dX4_order_30 ?_
        exact ⟨(I, L), ⟨zag.rf, zag.rf, rfl⟩, by first | (simp [orderF, *]; done) | (simp_all [orderF]; done), rfl, rfl, rfl, rfl, rfl⟩
    · skip
      refine z_iconst g dX4_order_17 zki_m1 ?_
      refine z_iret g r (by omega) (by omega) dX4_order_18 ?_
      exact ⟨(I, L), ⟨zag.rf, zag.rf, rfl⟩, by first | (simp [orderF, *]; done) | (simp_all [orderF]; done), rfl, rfl, rfl, rfl, rfl⟩

def bitsN (m : Nat) : Nat → Nat
  | 0 => 0
  | q + 1 => bitsN m q + m / 2 ^ q % 2
theorem bitsN_5 (m : Nat) : bitsN m 5 = pcN m := by
  unfold pcN bitsN bitsN bitsN bitsN bitsN bitsN
  simp
theorem bitsN_le (m : Nat) : ∀ q : Nat, bitsN m q ≤ q
  | 0 => Nat.le_refl _
  | q + 1 => by
    have := bitsN_le m q
    have h2 : m / 2 ^ q % 2 < 2 := Nat.mod_lt _ (by decide)
    show bitsN m q + m / 2 ^ q % 2 ≤ q + 1
    omega
set_option maxHeartbeats 4000000 in
theorem c_X4_orderMean {E : ZE} {n : Nat} {T : ZT} {I : ZI} {L : ZL} {R : ZR} {t : Nat} (hL : TL T R t) {np : Nat} (hN : I (t + 1) 6 = nI np) (hnp : np ≤ 5) (hO : oddOK (I (t + 1))) (hg : gok 16 (I (t + 1))) {p v part : Int32} : zM E yX4_orderMean cX4_orderMean 6 (some (Jvm.ClassFile.FieldType.long)) 50 0 0 [.ref t, .int p, .int v, .int part] n T I L R (zex (fun w : ZI × ZL => zag (T8 t) I w.1 ∧ zag (fun x => x = t) L w.2 ∧ w.2 t 14 = L t 14) (fun w => zis (some (.long (orderMeanF (I (t + 1)) (I (t + 8)) (I (t + 9)) p v part))) n T w.1 w.2 R)) := by
  refine zM.of (lv0 := [some (.ref t), some (.int p), some (.int v), some (.int part), none, none]) pn_X4 (Nat.le_of_ble_eq_true rfl) rfl fun G g r hin hlt hbn => ?_
  have g : zGd E G cX4_orderMean RX4 6 50 0 0 := g
  have hL0 := hL
  obtain ⟨hT, h1, ht1, h2, ht2, h3, ht3, h10, ht4, h11, ht5, ht6, ht7, h16, ht8, h17, ht9, h19, ht10⟩ := hL0
  refine z_al0 g dX4_orderMean_0 ?_
  refine z_il1 g dX4_orderMean_1 ?_
  refine z_callV1 g ck_X4_isPlayer q1438 q1440 qs50 cls4 (by assumption) (c_X4_isPlayer hL) rfl (Nat.le_of_ble_eq_true rfl) (by omega) (by omega) (by omega) dX4_orderMean_2 (z_ans1 ?_)
  refine z_ifb_eq (tgt := 26) g dX4_orderMean_5 (by decide) (fun c5 => ?_) (fun c5 => ?_)
  · skip
    refine z_ldc2 g q1502 dX4_orderMean_26 ?_
    refine z_lret g r (by omega) (by omega) dX4_orderMean_29 ?_
    exact ⟨(I, L), ⟨zag.rf, zag.rf, rfl⟩, by first | (simp [orderMeanF, *]; done) | (simp_all [orderMeanF]; done), rfl, rfl, rfl, rfl, rfl⟩
  · skip
    obtain ⟨pn, pn_lt, rfl⟩ := isPl_of c5 hN hnp
    have pnc : (nI pn).toNatClampNeg = pn := cl_nI (by omega)
    refine z_al0 g dX4_orderMean_8 ?_
    refine z_il1 g dX4_orderMean_9 ?_
    refine z_il2 g dX4_orderMean_10 ?_
    refine z_callV2 g ck_X4_isSet q1570 q1572 qs66 cls4 (by assumption) (c_X4_isSet hL) rfl (Nat.le_of_ble_eq_true rfl) (by omega) (by omega) (by omega) dX4_orderMean_11 (z_ans1 ?_)
    refine z_ifb_eq (tgt := 26) g dX4_orderMean_14 (by decide) (fun c14 => ?_) (fun c14 => ?_)
    · skip
      refine z_ldc2 g q1502 dX4_orderMean_26 ?_
      refine z_lret g r (by omega) (by omega) dX4_orderMean_29 ?_
      exact ⟨(I, L), ⟨zag.rf, zag.rf, rfl⟩, by first | (simp [orderMeanF, *]; done) | (simp_all [orderMeanF]; done), rfl, rfl, rfl, rfl, rfl⟩
    · skip
      obtain ⟨m, hm0, rfl⟩ := isSet_of c14 hN hnp
      have hm := m_small hm0 hnp
      have mc : (nI m).toNatClampNeg = m := cl_nI (by omega)
      have hpc := pcN_4 hm0 hnp hN pn_lt c14
      have hlk := c_X4_looksForOrder (E := E) (n := n) (L := L) hL hN hnp hO hg (show pn < 5 by omega) hm hpc
      refine z_il3 g dX4_orderMean_17 ?_
      refine z_iconst g dX4_orderMean_18 zki_0 ?_
      refine z_iconst g dX4_orderMean_19 zki_1 ?_
      refine z_callS3 g ck_X4_in q1319 q1320 c_X4_in rfl (Nat.le_of_ble_eq_true rfl) (by omega) (by omega) (by omega) dX4_orderMean_20 (z_ans1 ?_)
      refine z_ifb_ne (tgt := 30) g dX4_orderMean_23 (by decide) (fun c23 => ?_) (fun c23 => ?_)
      · skip
        refine z_al0 g dX4_orderMean_30 ?_
        refine z_il1 g dX4_orderMean_31 ?_
        refine z_il2 g dX4_orderMean_32 ?_
        refine z_callV2 g ck_X4_looksForOrder q1574 q1576 qs67 cls4 (by assumption) hlk rfl (Nat.le_of_ble_eq_true rfl) (by omega) (by omega) (by omega) dX4_orderMean_33 (z_ex fun I1 g1 => z_ans0 ?_)
        have hin : inB part (nI 0) (nI 1) = true := c23
        have loop : ∀ I1 : ZI, zag (T8 t) I I1 → ∀ r q : Nat, q + r = 5 → Z E G 0 0 n T I1 (zp L t (zp (L t) 18 (looksF (I (t + 1)) pn m (I (t + 8)) (I (t + 9))).2.1)) R 42 [some (.ref t), some (.int (nI pn)), some (.int (nI m)), some (.int part), some (.int (nI (bitsN m q))), some (.int (nI q))] [] := by
          intro I1 g1 r
          induction r with
          | zero =>
            intro q hq
            obtain rfl : q = 5 := hq
            rw [bitsN_5]
            refine z_il5 g dX4_orderMean_42 ?_
            refine z_iconst g dX4_orderMean_44 zki_5 ?_
            refine z_icmp_ge_t (tgt := 65) g dX4_orderMean_45 (by decide) (by decide +kernel) ?_
            refine z_al0 g dX4_orderMean_65 ?_
            refine zg4_18 g q1260 (Or.inl rfl) (by assumption) dX4_orderMean_66 ?_
            refine z_topl (show _ = (looksF (I (t + 1)) pn m (I (t + 8)) (I (t + 9))).2.1 from by rw [zp_s, zp_s]) ?_
            refine z_il4 g dX4_orderMean_69 ?_
            refine z_callS1 g ck_X4_tens q1524 q1525 (c_X4_tens (by omega)) rfl (Nat.le_of_ble_eq_true rfl) (by omega) (by omega) (by omega) dX4_orderMean_71 (z_ans1 ?_)
            refine z_il3 g dX4_orderMean_74 ?_
            refine z_callS3 g ck_X4_lowest q1527 q1528 (c_X4_lowest (pow10_ne (by omega))) rfl (Nat.le_of_ble_eq_true rfl) (by omega) (by omega) (by omega) dX4_orderMean_75 (z_ans1 ?_)
            refine z_lret g r (by omega) (by omega) dX4_orderMean_78 ?_
            refine ⟨(I1, _), ⟨g1, zag.rf.put rfl, by show zp L t (zp (L t) 18 _) t 14 = _; rw [zp_s, zp_n (by decide)]⟩, ?_, rfl, rfl, rfl, rfl, rfl⟩
            simp [orderMeanF, *]
          | succ r ih =>
            intro q hq
            have hb := bitsN_le m q
            have hq2 : m / 2 ^ q % 2 < 2 := Nat.mod_lt _ (by decide)
            refine z_il5 g dX4_orderMean_42 ?_
            refine z_iconst g dX4_orderMean_44 zki_5 ?_
            refine z_icmp_ge_f (tgt := 65) g dX4_orderMean_45 (by decide) (nI_ge (by omega) (by omega)) ?_
            refine z_il4 g dX4_orderMean_48 ?_
            refine z_il2 g dX4_orderMean_50 ?_
            refine z_il5 g dX4_orderMean_51 ?_
            refine z_ishr g dX4_orderMean_53 ?_
            refine z_iconst g dX4_orderMean_54 zki_1 ?_
            refine z_iand g dX4_orderMean_55 ?_
            refine z_top (bit_shr m hm q (by omega)) ?_
            first | with_reducible refine z_iaddN g dX4_orderMean_56 ?_ | refine z_iadd g dX4_orderMean_56 ?_
            refine z_is4 g dX4_orderMean_57 rfl ?_
            first | with_reducible refine z_inc5 g dX4_orderMean_59 (zinc1 _) rfl ?_ | refine z_inc5 g dX4_orderMean_59 rfl rfl ?_
            refine z_goto (tgt := 42) g dX4_orderMean_62 (by decide) ?_
            exact ih (q + 1) (by omega)
        refine z_iconst g dX4_orderMean_36 zki_0 ?_
        refine z_is4 g dX4_orderMean_37 rfl ?_
        refine z_iconst g dX4_orderMean_39 zki_0 ?_
        refine z_is5 g dX4_orderMean_40 rfl ?_
        exact loop I1 g1.1 5 0 rfl
      · skip
        refine z_ldc2 g q1502 dX4_orderMean_26 ?_
        refine z_lret g r (by omega) (by omega) dX4_orderMean_29 ?_
        exact ⟨(I, L), ⟨zag.rf, zag.rf, rfl⟩, by first | (simp [orderMeanF, *]; done) | (simp_all [orderMeanF]; done), rfl, rfl, rfl, rfl, rfl⟩

