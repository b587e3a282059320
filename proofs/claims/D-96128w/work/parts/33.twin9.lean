/-! ===== the twin: says, likely, looked ===== -/
set_option maxRecDepth 100000
theorem zp_id {α : Type} {f : Nat → α} {b : Nat} {w : α} (h : f b = w) : zp f b w = f := by
  rw [← h, zp_self]
/-- rows of the books -/
def TB (t : Nat) : Nat → Prop := fun b => b = t + 3 ∨ b = t + 4 ∨ b = t + 5
theorem TB.of {t b : Nat} (h : T2 t b) : TB t b := by
  unfold T2 at h
  unfold TB
  omega
def TB1 (t : Nat) : Nat → Prop := fun b => b = t + 1 ∨ TB t b
theorem zag.dnB {t : Nat} {I J : ZI} (h : zag (TB1 t) I J) (e : J (t + 1) = I (t + 1)) : zag (TB t) I J := fun b hb => by
  by_cases hb1 : b = t + 1
  · rw [hb1]; exact e
  · exact h b (fun q => by
      rcases q with q | q
      · exact hb1 q
      · exact hb q)
def zsb (t : Nat) (v : Option Value) (n : Nat) (T : ZT) (I : ZI) (L : ZL) (R : ZR) : ZP := zex (fun I' : ZI => zag (TB t) I I') (fun I' => zis v n T I' L R)
set_option maxHeartbeats 4000000 in
theorem c_X4_says {E : ZE} {n : Nat} {T : ZT} {I : ZI} {L : ZL} {R : ZR} {t : Nat} (hL : TL T R t) {np : Nat} (hN : I (t + 1) 6 = nI np) (hnp : np ≤ 5) (hO : oddOK (I (t + 1))) (hg : gok 16 (I (t + 1))) (hB : bookOK (I (t + 1))) {p : Int32} : zM E yX4_says cX4_says 3 (some (Jvm.ClassFile.FieldType.int)) 4 0 0 [.ref t, .int p] n T I L R (zsb t (some (.int (saysF (I (t + 1)) p))) n T I L R) := by
  refine zM.of (lv0 := [some (.ref t), some (.int p), none]) pn_X4 (Nat.le_of_ble_eq_true rfl) rfl fun G g r hin hlt hbn => ?_
  have g : zGd E G cX4_says RX4 3 4 0 0 := g
  have hL0 := hL
  obtain ⟨hT, h1, ht1, h2, ht2, h3, ht3, h10, ht4, h11, ht5, ht6, ht7, h16, ht8, h17, ht9, h19, ht10⟩ := hL0
  obtain ⟨nb, hnb, hb8, hbk⟩ := hB
  refine z_al0 g dX4_says_0 ?_
  refine z_il1 g dX4_says_1 ?_
  refine z_callV1 g ck_X4_isPlayer q1438 q1440 qs50 cls4 (by assumption) (c_X4_isPlayer hL) rfl (Nat.le_of_ble_eq_true rfl) (by omega) (by omega) (by omega) dX4_says_2 (z_ans1 ?_)
  refine z_ifb_ne (tgt := 10) g dX4_says_5 (by decide) (fun c5 => ?_) (fun c5 => ?_)
  · skip
    obtain ⟨pn, pn_lt, rfl⟩ := isPl_of c5 hN hnp
    have pnc : (nI pn).toNatClampNeg = pn := cl_nI (by omega)
    have loop : ∀ r k : Nat, k + r = nb → Z E G 0 0 n T (zp (zp I (t + 3) (zfst 6 (I (t + 1)) (I (t + 3)))) (t + 1) (bgsF (I (t + 1)) k)) L R 16 [some (.ref t), some (.int (nI pn)), some (.int (nI k))] [] := by
      intro r
      induction r with
      | zero =>
        intro k hk
        obtain rfl : k = nb := hk
        have hbg := (bgs_ok hbk k 1 (by omega) (gok_le hg (by omega)))
        have h8 : bgsF (I (t + 1)) k 8 = nI k := (hbg.1 8 (by decide)).trans hb8
        refine z_il2 g dX4_says_16 ?_
        refine z_al0 g dX4_says_17 ?_
        refine zg4_1 g q1243 (Or.inl rfl) (by assumption) dX4_says_18 (by assumption) ?_
        refine z_bipush g dX4_says_21 zkb_8 ?_
        refine z_iald (k := 0) g rfl (by assumption) (by omega) (by omega) dX4_says_23 ?_
        refine z_icmp_ge_t (tgt := 38) g dX4_says_24 (by decide) (by rw [zp_s, h8]; exact Int32.le_refl _) ?_
        refine z_al0 g dX4_says_38 ?_
        refine zg4_1 g q1243 (Or.inl rfl) (by assumption) dX4_says_39 (by assumption) ?_
        refine z_iconst g dX4_says_42 zki_1 ?_
        refine z_il1 g dX4_says_43 ?_
        first | with_reducible refine z_iaddN g dX4_says_44 ?_ | refine z_iadd g dX4_says_44 ?_
        refine z_iald (k := 0) g rfl (by assumption) (by omega) (by omega) dX4_says_45 ?_
        refine z_is2 g dX4_says_46 rfl ?_
        refine z_al0 g dX4_says_47 ?_
        refine z_callV0 g ck_X4_goesBack q1520 q1522 qs63 cls4 (by assumption) (c_X4_goesBack hL) rfl (Nat.le_of_ble_eq_true rfl) (by omega) (by omega) (by omega) dX4_says_48 (z_ans0 ?_)
        refine z_il2 g dX4_says_51 ?_
        refine z_iret g r (by omega) (by omega) dX4_says_52 ?_
        refine ⟨_, zag.dnB (((zag.rf.put (Or.inr (Or.inl rfl))).put (Or.inl rfl)).put (Or.inl rfl)) ?_, ?_, rfl, rfl, rfl, rfl, rfl⟩
        · rw [zp_s, zp_s, zp_n (by omega), zp_s]
          funext j
          unfold zfst
          by_cases hj : j < 6
          · rw [if_pos hj, if_pos hj]
          · rw [if_neg hj]
            exact hbg.1 j (by omega)
        · rw [zp_s]
          simp [saysF, *, cl_nI (show k < 2 ^ 31 by omega)]
      | succ r ih =>
        intro k hk
        have hbg := (bgs_ok hbk k 1 (by omega) (gok_le hg (by omega)))
        have h8 : bgsF (I (t + 1)) k 8 = nI nb := (hbg.1 8 (by decide)).trans hb8
        obtain ⟨pp, qq, hpp, hqq, hpq, x1, x2⟩ := hbk k (by omega)
        have y1 : bgsF (I (t + 1)) k (42 + k) = nI pp := (hbg.1 _ (by omega)).trans x1
        have y2 : bgsF (I (t + 1)) k (50 + k) = nI qq := (hbg.1 _ (by omega)).trans x2
        have y3 : holdOK (bgsF (I (t + 1)) k 11) := by rw [hbg.1 11 (by decide)]; exact hO.1
        refine z_il2 g dX4_says_16 ?_
        refine z_al0 g dX4_says_17 ?_
        refine zg4_1 g q1243 (Or.inl rfl) (by assumption) dX4_says_18 (by assumption) ?_
        refine z_bipush g dX4_says_21 zkb_8 ?_
        refine z_iald (k := 0) g rfl (by assumption) (by omega) (by omega) dX4_says_23 ?_
        refine z_icmp_ge_f (tgt := 38) g dX4_says_24 (by decide) (by rw [zp_s, h8]; exact nI_ge (by omega) (by omega)) ?_
        refine z_al0 g dX4_says_27 ?_
        refine z_il2 g dX4_says_28 ?_
        refine z_callV1 g ck_X4_booksGame q1611 q1613 qs72 cls4 (by assumption) (c_X4_booksGame hL (by rw [zp_s]; exact y3) (by omega) (by rw [zp_s]; exact y1) (by rw [zp_s]; exact y2) hpp hqq) rfl (Nat.le_of_ble_eq_true rfl) (by omega) (by omega) (by omega) dX4_says_29 (z_ans0 ?_)
        rw [zp_zp, zp_s]
        first | with_reducible refine z_inc2 g dX4_says_32 (zinc1 _) rfl ?_ | refine z_inc2 g dX4_says_32 rfl rfl ?_
        refine z_goto (tgt := 16) g dX4_says_35 (by decide) ?_
        exact ih (k + 1) (by omega)
    refine z_al0 g dX4_says_10 ?_
    refine z_callV0 g ck_X4_keeps q1507 q1509 qs60 cls4 (by assumption) (c_X4_keeps hL) rfl (Nat.le_of_ble_eq_true rfl) (by omega) (by omega) (by omega) dX4_says_11 (z_ans0 ?_)
    refine z_iconst g dX4_says_14 zki_0 ?_
    refine z_is2 g dX4_says_15 rfl ?_
    have h := loop nb 0 (by omega)
    rw [zp_id (show (zp I (t + 3) (zfst 6 (I (t + 1)) (I (t + 3)))) (t + 1) = bgsF (I (t + 1)) 0 from zp_n (by omega))] at h
    exact h
  · skip
    refine z_iconst g dX4_says_8 zki_m1 ?_
    refine z_iret g r (by omega) (by omega) dX4_says_9 ?_
    exact ⟨I, zag.rf, by first | (simp [saysF, *]; done) | (simp_all [saysF]; done), rfl, rfl, rfl, rfl, rfl⟩

theorem T2.t3 {t : Nat} : ¬ T2 t (t + 3) := fun q => by unfold T2 at q; omega
set_option maxHeartbeats 4000000 in
theorem c_X4_likely {E : ZE} {n : Nat} {T : ZT} {I : ZI} {L : ZL} {R : ZR} {t : Nat} (hL : TL T R t) {np : Nat} (hN : I (t + 1) 6 = nI np) (hnp : np ≤ 5) (hO : oddOK (I (t + 1))) (hg : gok 16 (I (t + 1))) (hB : bookOK (I (t + 1))) {p : Int32} : zM E yX4_likely cX4_likely 11 (some (Jvm.ClassFile.FieldType.int)) 6 0 0 [.ref t, .int p] n T I L R (zsb t (some (.int (likelyF (I (t + 1)) p))) n T I L R) := by
  refine zM.of (lv0 := [some (.ref t), some (.int p), none, none, none, none, none, none, none, none, none]) pn_X4 (Nat.le_of_ble_eq_true rfl) rfl fun G g r hin hlt hbn => ?_
  have g : zGd E G cX4_likely RX4 11 6 0 0 := g
  have hL0 := hL
  obtain ⟨hT, h1, ht1, h2, ht2, h3, ht3, h10, ht4, h11, ht5, ht6, ht7, h16, ht8, h17, ht9, h19, ht10⟩ := hL0
  obtain ⟨nb, hnb, hb8, hbk⟩ := hB
  refine z_al0 g dX4_likely_0 ?_
  refine z_il1 g dX4_likely_1 ?_
  refine z_callV1 g ck_X4_isPlayer q1438 q1440 qs50 cls4 (by assumption) (c_X4_isPlayer hL) rfl (Nat.le_of_ble_eq_true rfl) (by omega) (by omega) (by omega) dX4_likely_2 (z_ans1 ?_)
  refine z_ifb_ne (tgt := 10) g dX4_likely_5 (by decide) (fun c5 => ?_) (fun c5 => ?_)
  · skip
    obtain ⟨pn, pn_lt, rfl⟩ := isPl_of c5 hN hnp
    have pnc : (nI pn).toNatClampNeg = pn := cl_nI (by omega)
    have inner : ∀ (v : Nat) (J0 : ZI), v < 10 → zag (TB1 t) I J0 → J0 (t + 3) = zfst 6 (zp (I (t + 1)) (17 + pn) (nI v)) (I (t + 3)) → (∀ J1 : ZI, zag (TB1 t) I J1 → J1 (t + 1) = bgsF (zp (I (t + 1)) (17 + pn) (nI v)) nb → (∀ j : Nat, j < 6 → J1 (t + 3) j = (zp (I (t + 1)) (17 + pn) (nI v)) j) → Z E G 0 0 n T J1 L R 139 [some (.ref t), some (.int (nI pn)), some (.int (I (t + 1) (17 + pn))), some (.int (likeN (I (t + 1)) pn nb v).1), some (.long (likeN (I (t + 1)) pn nb v).2), none, some (.int (nI v)), some (.long (prodF (zp (I (t + 1)) (17 + pn) (nI v)) nb)), none, some (.int (nI nb)), none] []) → ∀ (r k : Nat) (J : ZI), k + r = nb → zag (TB1 t) I J → J (t + 1) = bgsF (zp (I (t + 1)) (17 + pn) (nI v)) k → (∀ j : Nat, j < 6 → J (t + 3) j = (zp (I (t + 1)) (17 + pn) (nI v)) j) → Z E G 0 0 n T J L R 58 [some (.ref t), some (.int (nI pn)), some (.int (I (t + 1) (17 + pn))), some (.int (likeN (I (t + 1)) pn nb v).1), some (.long (likeN (I (t + 1)) pn nb v).2), none, some (.int (nI v)), some (.long (prodF (zp (I (t + 1)) (17 + pn) (nI v)) k)), none, some (.int (nI k)), none] [] := by
      intro v J0 hv gJ0 hJ03 hend r
      have ov := oddOK_v (v := nI v) (show pn < 5 by omega) hO
      have gv : gok 16 (zp (I (t + 1)) (17 + pn) (nI v)) := by
        obtain ⟨gm, q1, q2⟩ := hg
        exact ⟨gm, q1, by rw [zp_n (by omega)]; exact q2⟩
      have h8v : (zp (I (t + 1)) (17 + pn) (nI v)) 8 = nI nb := by rw [zp_n (by omega)]; exact hb8
      have hbv : ∀ k : Nat, k < nb → ∃ p q : Nat, p < 5 ∧ q < 5 ∧ p ≠ q ∧ (zp (I (t + 1)) (17 + pn) (nI v)) (42 + k) = nI p ∧ (zp (I (t + 1)) (17 + pn) (nI v)) (50 + k) = nI q := fun k hk => by
        rw [zp_n (by omega), zp_n (by omega)]
        exact hbk k hk
      induction r with
      | zero =>
        intro k J hk gJ hJ hF
        obtain rfl : k = nb := hk
        have hbg := (bgs_ok hbv k 1 (by omega) (gok_le gv (by omega)))
        have h8 : bgsF (zp (I (t + 1)) (17 + pn) (nI v)) k 8 = nI k := (hbg.1 8 (by decide)).trans h8v
        refine z_il9 g dX4_likely_58 ?_
        refine z_al0 g dX4_likely_60 ?_
        refine zg4_1 g q1243 (Or.inl rfl) (by assumption) dX4_likely_61 (by assumption) ?_
        refine z_bipush g dX4_likely_64 zkb_8 ?_
        refine z_iald (k := 0) g rfl (by assumption) (by omega) (by omega) dX4_likely_66 ?_
        refine z_icmp_ge_t (tgt := 139) g dX4_likely_67 (by decide) (by rw [hJ, h8]; exact Int32.le_refl _) ?_
        exact hend J gJ hJ hF
      | succ r ih =>
        intro k J hk gJ hJ hF
        have hbg := (bgs_ok hbv k 1 (by omega) (gok_le gv (by omega)))
        have h8 : bgsF (zp (I (t + 1)) (17 + pn) (nI v)) k 8 = nI nb := (hbg.1 8 (by decide)).trans h8v
        obtain ⟨pp, qq, hpp, hqq, hpq, x1, x2⟩ := hbv k (by omega)
        have y1 : bgsF (zp (I (t + 1)) (17 + pn) (nI v)) k (42 + k) = nI pp := (hbg.1 _ (by omega)).trans x1
        have y2 : bgsF (zp (I (t + 1)) (17 + pn) (nI v)) k (50 + k) = nI qq := (hbg.1 _ (by omega)).trans x2
        have y3 : oddOK (bgsF (zp (I (t + 1)) (17 + pn) (nI v)) k) := oddOK_ag hbg.1 ov (gok_le hbg.2 (by omega))
        have y4 : bgsF (zp (I (t + 1)) (17 + pn) (nI v)) k (58 + k) = (zp (I (t + 1)) (17 + pn) (nI v)) (58 + k) := hbg.1 _ (by omega)
        have hpr : prodF (zp (I (t + 1)) (17 + pn) (nI v)) (k + 1) = prodF (zp (I (t + 1)) (17 + pn) (nI v)) k * (if (zp (I (t + 1)) (17 + pn) (nI v)) (58 + k) = nI 1 then (oddsF (bgsF (zp (I (t + 1)) (17 + pn) (nI v)) k) pp qq).toInt64 else (nI 10 - oddsF (bgsF (zp (I (t + 1)) (17 + pn) (nI v)) k) pp qq).toInt64) := by
          rw [prodF_s, x1, x2, cl_nI (by omega), cl_nI (by omega)]
        refine z_il9 g dX4_likely_58 ?_
        refine z_al0 g dX4_likely_60 ?_
        refine zg4_1 g q1243 (Or.inl rfl) (by assumption) dX4_likely_61 (by assumption) ?_
        refine z_bipush g dX4_likely_64 zkb_8 ?_
        refine z_iald (k := 0) g rfl (by assumption) (by omega) (by omega) dX4_likely_66 ?_
        refine z_icmp_ge_f (tgt := 139) g dX4_likely_67 (by decide) (by rw [hJ, h8]; exact nI_ge (by omega) (by omega)) ?_
        refine z_al0 g dX4_likely_70 ?_
        refine z_al0 g dX4_likely_71 ?_
        refine zg4_1 g q1243 (Or.inl rfl) (by assumption) dX4_likely_72 (by assumption) ?_
        refine z_bipush g dX4_likely_75 zkb_42 ?_
        refine z_il9 g dX4_likely_77 ?_
        first | with_reducible refine z_iaddN g dX4_likely_79 ?_ | refine z_iadd g dX4_likely_79 ?_
        refine z_iald (k := 0) g rfl (by assumption) (by omega) (by omega) dX4_likely_80 ?_
        refine z_top (show _ = nI pp from by rw [hJ]; exact y1) ?_
        refine z_al0 g dX4_likely_81 ?_
        refine zg4_1 g q1243 (Or.inl rfl) (by assumption) dX4_likely_82 (by assumption) ?_
        refine z_bipush g dX4_likely_85 zkb_50 ?_
        refine z_il9 g dX4_likely_87 ?_
        first | with_reducible refine z_iaddN g dX4_likely_89 ?_ | refine z_iadd g dX4_likely_89 ?_
        refine z_iald (k := 0) g rfl (by assumption) (by omega) (by omega) dX4_likely_90 ?_
        refine z_top (show _ = nI qq from by rw [hJ]; exact y2) ?_
        refine z_callV2 g ck_X4_oddsOf q1474 q1476 qs54 cls4 (by assumption) (cs_X4_oddsOf hL (by rw [hJ]; exact y3) hpp hqq) rfl (Nat.le_of_ble_eq_true rfl) (by omega) (by omega) (by omega) dX4_likely_91 (z_ex fun I1 g1 => z_ans1 ?_)
        rw [hJ]
        have f1 : I1 (t + 1) = _ := g1.row.trans hJ
        refine z_is10 g dX4_likely_94 rfl ?_
        refine z_ll7 g dX4_likely_96 ?_
        refine z_al0 g dX4_likely_98 ?_
        refine zg4_1 g q1243 (Or.inl rfl) (by assumption) dX4_likely_99 (by assumption) ?_
        refine z_bipush g dX4_likely_102 zkb_58 ?_
        refine z_il9 g dX4_likely_104 ?_
        first | with_reducible refine z_iaddN g dX4_likely_106 ?_ | refine z_iadd g dX4_likely_106 ?_
        refine z_iald (k := 0) g rfl (by assumption) (by omega) (by omega) dX4_likely_107 ?_
        refine z_iconst g dX4_likely_108 zki_1 ?_
        refine z_icmp_ne (tgt := 118) g dX4_likely_109 (by decide) (fun c109 => ?_) (fun c109 => ?_)
        · skip
          rw [f1, y4] at c109
          rw [if_neg c109] at hpr
          refine z_bipush g dX4_likely_118 zkb_10 ?_
          refine z_il10 g dX4_likely_120 ?_
          first | with_reducible refine z_isubN g dX4_likely_122 (by omega) ?_ | refine z_isub g dX4_likely_122 ?_
          refine z_i2l g dX4_likely_123 ?_
          refine z_lmul g dX4_likely_124 ?_
          refine z_topl (show _ = prodF (zp (I (t + 1)) (17 + pn) (nI v)) (k + 1) from hpr.symm) ?_
          refine z_ls7 g dX4_likely_125 rfl ?_
          refine z_al0 g dX4_likely_127 ?_
          refine z_il9 g dX4_likely_128 ?_
          refine z_callV1 g ck_X4_booksGame q1611 q1613 qs72 cls4 (by assumption) (c_X4_booksGame hL (by rw [f1]; exact y3.1) (by omega) (by rw [f1]; exact y1) (by rw [f1]; exact y2) hpp hqq) rfl (Nat.le_of_ble_eq_true rfl) (by omega) (by omega) (by omega) dX4_likely_130 (z_ans0 ?_)
          first | with_reducible refine z_inc9 g dX4_likely_133 (zinc1 _) rfl ?_ | refine z_inc9 g dX4_likely_133 rfl rfl ?_
          refine z_goto (tgt := 58) g dX4_likely_136 (by decide) ?_
          exact z_sub (by simp [zsub]) (ih (k + 1) (zp I1 (t + 1) (bgameF (I1 (t + 1)) k)) (by omega) ((gJ.trans (g1.mono fun _ q => Or.inr (TB.of q))).put (Or.inl rfl)) (by rw [zp_s, f1]; rfl) (fun j hj => by rw [zp_n (by omega), g1 _ T2.t3]; exact hF j hj))
        · skip
          rw [f1, y4] at c109
          rw [if_pos c109] at hpr
          refine z_il10 g dX4_likely_112 ?_
          refine z_i2l g dX4_likely_114 ?_
          refine z_goto (tgt := 124) g dX4_likely_115 (by decide) ?_
          refine z_lmul g dX4_likely_124 ?_
          refine z_topl (show _ = prodF (zp (I (t + 1)) (17 + pn) (nI v)) (k + 1) from hpr.symm) ?_
          refine z_ls7 g dX4_likely_125 rfl ?_
          refine z_al0 g dX4_likely_127 ?_
          refine z_il9 g dX4_likely_128 ?_
          refine z_callV1 g ck_X4_booksGame q1611 q1613 qs72 cls4 (by assumption) (c_X4_booksGame hL (by rw [f1]; exact y3.1) (by omega) (by rw [f1]; exact y1) (by rw [f1]; exact y2) hpp hqq) rfl (Nat.le_of_ble_eq_true rfl) (by omega) (by omega) (by omega) dX4_likely_130 (z_ans0 ?_)
          first | with_reducible refine z_inc9 g dX4_likely_133 (zinc1 _) rfl ?_ | refine z_inc9 g dX4_likely_133 rfl rfl ?_
          refine z_goto (tgt := 58) g dX4_likely_136 (by decide) ?_
          exact z_sub (by simp [zsub]) (ih (k + 1) (zp I1 (t + 1) (bgameF (I1 (t + 1)) k)) (by omega) ((gJ.trans (g1.mono fun _ q => Or.inr (TB.of q))).put (Or.inl rfl)) (by rw [zp_s, f1]; rfl) (fun j hj => by rw [zp_n (by omega), g1 _ T2.t3]; exact hF j hj))
    have outer : ∀ (r v : Nat) (J : ZI), v + r = 10 → zag (TB1 t) I J → (∃ x : Int32, J (t + 1) = zp (I (t + 1)) (17 + pn) x) → Z E G 0 0 n T J L R 30 [some (.ref t), some (.int (nI pn)), some (.int (I (t + 1) (17 + pn))), some (.int (likeN (I (t + 1)) pn nb v).1), some (.long (likeN (I (t + 1)) pn nb v).2), none, some (.int (nI v)), none, none, none, none] [] := by
      intro r
      induction r with
      | zero =>
        intro v J hv gJ hx
        obtain rfl : v = 10 := hv
        obtain ⟨x, hx⟩ := hx
        refine z_il6 g dX4_likely_30 ?_
        refine z_bipush g dX4_likely_32 zkb_10 ?_
        refine z_icmp_ge_t (tgt := 181) g dX4_likely_34 (by decide) (by decide +kernel) ?_
        refine z_al0 g dX4_likely_181 ?_
        refine zg4_1 g q1243 (Or.inl rfl) (by assumption) dX4_likely_182 (by assumption) ?_
        refine z_bipush g dX4_likely_185 zkb_17 ?_
        refine z_il1 g dX4_likely_187 ?_
        first | with_reducible refine z_iaddN g dX4_likely_188 ?_ | refine z_iadd g dX4_likely_188 ?_
        refine z_il2 g dX4_likely_189 ?_
        refine z_iast (k := 0) g rfl (by decide) (by assumption) (by omega) (by omega) dX4_likely_190 ?_
        refine z_il3 g dX4_likely_191 ?_
        refine z_iret g r (by omega) (by omega) dX4_likely_192 ?_
        refine ⟨_, zag.dnB (gJ.put (Or.inl rfl)) (by rw [zp_s, hx, zp_zp, zp_self]), ?_, rfl, rfl, rfl, rfl, rfl⟩
        simp [likelyF, *, cl_nI (show nb < 2 ^ 31 by omega)]
      | succ r ih =>
        intro v J hv gJ hx
        obtain ⟨x, hx⟩ := hx
        have hlk : likeN (I (t + 1)) pn nb (v + 1) = (if (likeN (I (t + 1)) pn nb v).2 < prodF (zp (I (t + 1)) (17 + pn) (nI v)) nb then nI v else (likeN (I (t + 1)) pn nb v).1, if (likeN (I (t + 1)) pn nb v).2 < prodF (zp (I (t + 1)) (17 + pn) (nI v)) nb then prodF (zp (I (t + 1)) (17 + pn) (nI v)) nb else (likeN (I (t + 1)) pn nb v).2) := rfl
        have hend : ∀ J1 : ZI, zag (TB1 t) I J1 → J1 (t + 1) = bgsF (zp (I (t + 1)) (17 + pn) (nI v)) nb → (∀ j : Nat, j < 6 → J1 (t + 3) j = (zp (I (t + 1)) (17 + pn) (nI v)) j) → Z E G 0 0 n T J1 L R 139 [some (.ref t), some (.int (nI pn)), some (.int (I (t + 1) (17 + pn))), some (.int (likeN (I (t + 1)) pn nb v).1), some (.long (likeN (I (t + 1)) pn nb v).2), none, some (.int (nI v)), some (.long (prodF (zp (I (t + 1)) (17 + pn) (nI v)) nb)), none, some (.int (nI nb)), none] [] := by
          intro J1 gJ1 hJ1 hF
          have gv : gok 16 (zp (I (t + 1)) (17 + pn) (nI v)) := by
            obtain ⟨gm, q1, q2⟩ := hg
            exact ⟨gm, q1, by rw [zp_n (by omega)]; exact q2⟩
          have hbv : ∀ k : Nat, k < nb → ∃ p q : Nat, p < 5 ∧ q < 5 ∧ p ≠ q ∧ (zp (I (t + 1)) (17 + pn) (nI v)) (42 + k) = nI p ∧ (zp (I (t + 1)) (17 + pn) (nI v)) (50 + k) = nI q := fun k hk => by
            rw [zp_n (by omega), zp_n (by omega)]
            exact hbk k hk
          have hbg := (bgs_ok hbv nb 1 (Nat.le_refl _) (gok_le gv (by omega)))
          refine z_al0 g dX4_likely_139 ?_
          refine z_callV0 g ck_X4_goesBack q1520 q1522 qs63 cls4 (by assumption) (c_X4_goesBack hL) rfl (Nat.le_of_ble_eq_true rfl) (by omega) (by omega) (by omega) dX4_likely_140 (z_ans0 ?_)
          refine z_ll7 g dX4_likely_143 ?_
          refine z_ll4 g dX4_likely_145 ?_
          refine z_lcmp g dX4_likely_147 ?_
          refine z_if_le (tgt := 156) g dX4_likely_148 (by decide) (fun c148 => ?_) (fun c148 => ?_)
          · skip
            rw [lg_cmp_le] at c148
            have c148 := Int64.not_lt.mpr c148
            rw [if_neg c148, if_neg c148] at hlk
            refine z_il3 g dX4_likely_156 ?_
            refine z_top (show _ = (likeN (I (t + 1)) pn nb (v + 1)).1 from by rw [hlk]) ?_
            refine z_is3 g dX4_likely_157 rfl ?_
            refine z_ll7 g dX4_likely_158 ?_
            refine z_ll4 g dX4_likely_160 ?_
            refine z_lcmp g dX4_likely_162 ?_
            refine z_if_le (tgt := 171) g dX4_likely_163 (by decide) (fun c163 => ?_) (fun c163 => ?_)
            · skip
              rw [lg_cmp_le] at c163
              have c163 := Int64.not_lt.mpr c163
              refine z_ll4 g dX4_likely_171 ?_
              refine z_topl (show _ = (likeN (I (t + 1)) pn nb (v + 1)).2 from by first | (rw [hlk]; done) | exact absurd c163 c148 | exact absurd c148 c163) ?_
              refine z_ls4 g dX4_likely_173 rfl ?_
              first | with_reducible refine z_inc6 g dX4_likely_175 (zinc1 _) rfl ?_ | refine z_inc6 g dX4_likely_175 rfl rfl ?_
              refine z_goto (tgt := 30) g dX4_likely_178 (by decide) ?_
              exact z_sub (by simp [zsub]) (ih (v + 1) (zp J1 (t + 1) (zfst 6 (J1 (t + 3)) (J1 (t + 1)))) (by omega) (gJ1.put (Or.inl rfl)) ⟨nI v, by
                rw [zp_s, hJ1]
                funext j
                unfold zfst
                by_cases hj : j < 6
                · rw [if_pos hj]
                  exact hF j hj
                · rw [if_neg hj]
                  exact hbg.1 j (by omega)⟩)
            · skip
              rw [lg_cmp_le] at c163
              have c163 := Int64.not_le.mp c163
              refine z_ll7 g dX4_likely_166 ?_
              refine z_goto (tgt := 173) g dX4_likely_168 (by decide) ?_
              refine z_topl (show _ = (likeN (I (t + 1)) pn nb (v + 1)).2 from by first | (rw [hlk]; done) | exact absurd c163 c148 | exact absurd c148 c163) ?_
              refine z_ls4 g dX4_likely_173 rfl ?_
              first | with_reducible refine z_inc6 g dX4_likely_175 (zinc1 _) rfl ?_ | refine z_inc6 g dX4_likely_175 rfl rfl ?_
              refine z_goto (tgt := 30) g dX4_likely_178 (by decide) ?_
              exact z_sub (by simp [zsub]) (ih (v + 1) (zp J1 (t + 1) (zfst 6 (J1 (t + 3)) (J1 (t + 1)))) (by omega) (gJ1.put (Or.inl rfl)) ⟨nI v, by
                rw [zp_s, hJ1]
                funext j
                unfold zfst
                by_cases hj : j < 6
                · rw [if_pos hj]
                  exact hF j hj
                · rw [if_neg hj]
                  exact hbg.1 j (by omega)⟩)
          · skip
            rw [lg_cmp_le] at c148
            have c148 := Int64.not_le.mp c148
            rw [if_pos c148, if_pos c148] at hlk
            refine z_il6 g dX4_likely_151 ?_
            refine z_goto (tgt := 157) g dX4_likely_153 (by decide) ?_
            refine z_top (show _ = (likeN (I (t + 1)) pn nb (v + 1)).1 from by rw [hlk]) ?_
            refine z_is3 g dX4_likely_157 rfl ?_
            refine z_ll7 g dX4_likely_158 ?_
            refine z_ll4 g dX4_likely_160 ?_
            refine z_lcmp g dX4_likely_162 ?_
            refine z_if_le (tgt := 171) g dX4_likely_163 (by decide) (fun c163 => ?_) (fun c163 => ?_)
            · skip
              rw [lg_cmp_le] at c163
              have c163 := Int64.not_lt.mpr c163
              refine z_ll4 g dX4_likely_171 ?_
              refine z_topl (show _ = (likeN (I (t + 1)) pn nb (v + 1)).2 from by first | (rw [hlk]; done) | exact absurd c163 c148 | exact absurd c148 c163) ?_
              refine z_ls4 g dX4_likely_173 rfl ?_
              first | with_reducible refine z_inc6 g dX4_likely_175 (zinc1 _) rfl ?_ | refine z_inc6 g dX4_likely_175 rfl rfl ?_
              refine z_goto (tgt := 30) g dX4_likely_178 (by decide) ?_
              exact z_sub (by simp [zsub]) (ih (v + 1) (zp J1 (t + 1) (zfst 6 (J1 (t + 3)) (J1 (t + 1)))) (by omega) (gJ1.put (Or.inl rfl)) ⟨nI v, by
                rw [zp_s, hJ1]
                funext j
                unfold zfst
                by_cases hj : j < 6
                · rw [if_pos hj]
                  exact hF j hj
                · rw [if_neg hj]
                  exact hbg.1 j (by omega)⟩)
            · skip
              rw [lg_cmp_le] at c163
              have c163 := Int64.not_le.mp c163
              refine z_ll7 g dX4_likely_166 ?_
              refine z_goto (tgt := 173) g dX4_likely_168 (by decide) ?_
              refine z_topl (show _ = (likeN (I (t + 1)) pn nb (v + 1)).2 from by first | (rw [hlk]; done) | exact absurd c163 c148 | exact absurd c148 c163) ?_
              refine z_ls4 g dX4_likely_173 rfl ?_
              first | with_reducible refine z_inc6 g dX4_likely_175 (zinc1 _) rfl ?_ | refine z_inc6 g dX4_likely_175 rfl rfl ?_
              refine z_goto (tgt := 30) g dX4_likely_178 (by decide) ?_
              exact z_sub (by simp [zsub]) (ih (v + 1) (zp J1 (t + 1) (zfst 6 (J1 (t + 3)) (J1 (t + 1)))) (by omega) (gJ1.put (Or.inl rfl)) ⟨nI v, by
                rw [zp_s, hJ1]
                funext j
                unfold zfst
                by_cases hj : j < 6
                · rw [if_pos hj]
                  exact hF j hj
                · rw [if_neg hj]
                  exact hbg.1 j (by omega)⟩)
        refine z_il6 g dX4_likely_30 ?_
        refine z_bipush g dX4_likely_32 zkb_10 ?_
        refine z_icmp_ge_f (tgt := 181) g dX4_likely_34 (by decide) (nI_ge (by omega) (by omega)) ?_
        refine z_al0 g dX4_likely_37 ?_
        refine zg4_1 g q1243 (Or.inl rfl) (by assumption) dX4_likely_38 (by assumption) ?_
        refine z_bipush g dX4_likely_41 zkb_17 ?_
        refine z_il1 g dX4_likely_43 ?_
        first | with_reducible refine z_iaddN g dX4_likely_44 ?_ | refine z_iadd g dX4_likely_44 ?_
        refine z_il6 g dX4_likely_45 ?_
        refine z_iast (k := 0) g rfl (by decide) (by assumption) (by omega) (by omega) dX4_likely_47 ?_
        refine z_mem rfl rfl (show _ = zp J (t + 1) (zp (I (t + 1)) (17 + pn) (nI v)) from by rw [hx, zp_zp]) rfl rfl ?_
        refine z_al0 g dX4_likely_48 ?_
        refine z_callV0 g ck_X4_keeps q1507 q1509 qs60 cls4 (by assumption) (c_X4_keeps hL) rfl (Nat.le_of_ble_eq_true rfl) (by omega) (by omega) (by omega) dX4_likely_49 (z_ans0 ?_)
        refine z_lconst (v := 1) g dX4_likely_52 rfl ?_
        refine z_ls7 g dX4_likely_53 rfl ?_
        refine z_iconst g dX4_likely_55 zki_0 ?_
        refine z_is9 g dX4_likely_56 rfl ?_
        exact z_sub (by simp [zsub, prodF]) (inner v (zp (zp J (t + 1) (zp (I (t + 1)) (17 + pn) (nI v))) (t + 3) (zfst 6 (zp (I (t + 1)) (17 + pn) (nI v)) (I (t + 3)))) (by omega) ((gJ.put (Or.inl rfl)).put (Or.inr (Or.inl rfl))) zp_s hend nb 0 _ (by omega) ((gJ.put (Or.inl rfl)).put (Or.inr (Or.inl rfl))) (by rw [zp_n (by omega), zp_s]; rfl) (fun j hj => by rw [zp_s, zp_s]; exact if_pos hj))
    refine z_al0 g dX4_likely_10 ?_
    refine zg4_1 g q1243 (Or.inl rfl) (by assumption) dX4_likely_11 (by assumption) ?_
    refine z_bipush g dX4_likely_14 zkb_17 ?_
    refine z_il1 g dX4_likely_16 ?_
    first | with_reducible refine z_iaddN g dX4_likely_17 ?_ | refine z_iadd g dX4_likely_17 ?_
    refine z_iald (k := 0) g rfl (by assumption) (by omega) (by omega) dX4_likely_18 ?_
    refine z_is2 g dX4_likely_19 rfl ?_
    refine z_iconst g dX4_likely_20 zki_0 ?_
    refine z_is3 g dX4_likely_21 rfl ?_
    refine z_ldc2 g q1578 dX4_likely_22 ?_
    refine z_ls4 g dX4_likely_25 rfl ?_
    refine z_iconst g dX4_likely_27 zki_0 ?_
    refine z_is6 g dX4_likely_28 rfl ?_
    exact outer 10 0 I (by omega) zag.rf ⟨I (t + 1) (17 + pn), zp_self.symm⟩
  · skip
    refine z_iconst g dX4_likely_8 zki_m1 ?_
    refine z_iret g r (by omega) (by omega) dX4_likely_9 ?_
    exact ⟨I, zag.rf, by first | (simp [likelyF, *]; done) | (simp_all [likelyF]; done), rfl, rfl, rfl, rfl, rfl⟩

theorem nI_m5 {k : Nat} (h : k < 2 ^ 31) : ¬ nI k = -5 := fun q => by
  have := nI_pos' (n := k) h
  rw [q] at this
  revert this
  decide +kernel
set_option maxHeartbeats 4000000 in
theorem c_X4_looked {E : ZE} {n : Nat} {T : ZT} {I : ZI} {L : ZL} {R : ZR} {t : Nat} (hL : TL T R t) (hO : oddOK (I (t + 1))) (hB : bookOK (I (t + 1))) {nt : Nat} (hnt : nt ≤ 8) (h9 : I (t + 1) 9 = nI nt) : zM E yX4_looked cX4_looked 3 (some (Jvm.ClassFile.FieldType.int)) 4 0 0 [.ref t] n T I L R (zsb t (some (.int (lookedF (I (t + 1))))) n T I L R) := by
  refine zM.of (lv0 := [some (.ref t), none, none]) pn_X4 (Nat.le_of_ble_eq_true rfl) rfl fun G g r hin hlt hbn => ?_
  have g : zGd E G cX4_looked RX4 3 4 0 0 := g
  have hL0 := hL
  obtain ⟨hT, h1, ht1, h2, ht2, h3, ht3, h10, ht4, h11, ht5, ht6, ht7, h16, ht8, h17, ht9, h19, ht10⟩ := hL0
  obtain ⟨nb, hnb, hb8, hbk⟩ := hB
  refine z_al0 g dX4_looked_0 ?_
  refine zg4_1 g q1243 (Or.inl rfl) (by assumption) dX4_looked_1 (by assumption) ?_
  refine z_bipush g dX4_looked_4 zkb_6 ?_
  refine z_iald (k := 0) g rfl (by assumption) (by omega) (by omega) dX4_looked_6 ?_
  refine z_if_ne (tgt := 13) g dX4_looked_7 (by decide) (fun c7 => ?_) (fun c7 => ?_)
  · skip
    have fin : ∀ (J : ZI) (x : Int32), zag (TB1 t) I J → ag6 (J (t + 1)) (I (t + 1)) → (∀ j : Nat, j < 6 → J (t + 3) j = I (t + 1) j) → Z E G 0 0 n T J L R 96 [some (.ref t), some (.int (lookR (I (t + 1)) nt 0 (I (t + 1)))), some (.int x)] [] := by
      intro J x gJ a6 hF
      have hres : lookedF (I (t + 1)) = (lookR (I (t + 1)) nt 0 (I (t + 1))) := by
        unfold lookedF
        rw [if_neg c7, h9, cl_nI (by omega)]
      refine z_al0 g dX4_looked_96 ?_
      refine z_callV0 g ck_X4_goesBack q1520 q1522 qs63 cls4 (by assumption) (c_X4_goesBack hL) rfl (Nat.le_of_ble_eq_true rfl) (by omega) (by omega) (by omega) dX4_looked_97 (z_ans0 ?_)
      refine z_il1 g dX4_looked_100 ?_
      refine z_iret g r (by omega) (by omega) dX4_looked_101 ?_
      refine ⟨_, zag.dnB (gJ.put (Or.inl rfl)) ?_, by rw [hres], rfl, rfl, rfl, rfl, rfl⟩
      rw [zp_s]
      funext j
      unfold zfst
      by_cases hj : j < 6
      · rw [if_pos hj]
        exact hF j hj
      · rw [if_neg hj]
        exact a6 j (by omega)
    have loop : ∀ (m k : Nat) (J : ZI), k + m = nt → zag (TB1 t) I J → ag6 (J (t + 1)) (I (t + 1)) → (∀ j : Nat, j < 6 → J (t + 3) j = I (t + 1) j) → lookR (I (t + 1)) m k (J (t + 1)) = (lookR (I (t + 1)) nt 0 (I (t + 1))) → Z E G 0 0 n T J L R 22 [some (.ref t), some (.int (-5)), some (.int (nI k))] [] := by
      intro m
      induction m with
      | zero =>
        intro k J hk gJ a6 hF hr
        obtain rfl : k = nt := hk
        have hr2 : (-5 : Int32) = (lookR (I (t + 1)) k 0 (I (t + 1))) := hr
        refine z_il2 g dX4_looked_22 ?_
        refine z_al0 g dX4_looked_23 ?_
        refine zg4_1 g q1243 (Or.inl rfl) (by assumption) dX4_looked_24 (by assumption) ?_
        refine z_bipush g dX4_looked_27 zkb_9 ?_
        refine z_iald (k := 0) g rfl (by assumption) (by omega) (by omega) dX4_looked_29 ?_
        refine z_icmp_ge_t (tgt := 96) g dX4_looked_30 (by decide) (by rw [a6 9 (by decide), h9]; exact Int32.le_refl _) ?_
        rw [hr2]
        exact fin J _ gJ a6 hF
      | succ m ih =>
        intro k J hk gJ a6 hF hr
        by_cases hbk2 : k < nb
        · obtain ⟨pp, qq, hpp, hqq, hpq, x1, x2⟩ := hbk k hbk2
          have y1 := (a6 (42 + k) (by omega)).trans x1
          have y2 := (a6 (50 + k) (by omega)).trans x2
          have hk8 : nI k < nI nb := nI_lt hbk2 (by omega)
          have a6b : ag6 (bgameF (J (t + 1)) k) (I (t + 1)) := (bgame_ag hpp hqq y1 y2).trans a6
          rw [show lookR (I (t + 1)) (m + 1) k (J (t + 1)) = (if nI k < I (t + 1) 8 ∧ (if nI k < I (t + 1) 8 then bgameF (J (t + 1)) k else (J (t + 1))) 1 = I (t + 1) (66 + k) then lookR (I (t + 1)) m (k + 1) (if nI k < I (t + 1) 8 then bgameF (J (t + 1)) k else (J (t + 1))) else nI k) from rfl, hb8, if_pos hk8] at hr
          refine z_il2 g dX4_looked_22 ?_
          refine z_al0 g dX4_looked_23 ?_
          refine zg4_1 g q1243 (Or.inl rfl) (by assumption) dX4_looked_24 (by assumption) ?_
          refine z_bipush g dX4_looked_27 zkb_9 ?_
          refine z_iald (k := 0) g rfl (by assumption) (by omega) (by omega) dX4_looked_29 ?_
          refine z_icmp_ge_f (tgt := 96) g dX4_looked_30 (by decide) (by rw [a6 9 (by decide), h9]; exact nI_ge (by omega) (by omega)) ?_
          refine z_il1 g dX4_looked_33 ?_
          refine z_bipush g dX4_looked_34 zkb_m5 ?_
          refine z_icmp_ne_f (tgt := 96) g dX4_looked_36 (by decide) (rfl) ?_
          refine z_il2 g dX4_looked_39 ?_
          refine z_al0 g dX4_looked_40 ?_
          refine zg4_1 g q1243 (Or.inl rfl) (by assumption) dX4_looked_41 (by assumption) ?_
          refine z_bipush g dX4_looked_44 zkb_8 ?_
          refine z_iald (k := 0) g rfl (by assumption) (by omega) (by omega) dX4_looked_46 ?_
          refine z_icmp_ge_f (tgt := 55) g dX4_looked_47 (by decide) (by rw [a6 8 (by decide), hb8]; exact nI_ge (by omega) (by omega)) ?_
          refine z_al0 g dX4_looked_50 ?_
          refine z_il2 g dX4_looked_51 ?_
          refine z_callV1 g ck_X4_booksGame q1611 q1613 qs72 cls4 (by assumption) (c_X4_booksGame hL (by rw [a6 11 (by decide)]; exact hO.1) (by omega) y1 y2 hpp hqq) rfl (Nat.le_of_ble_eq_true rfl) (by omega) (by omega) (by omega) dX4_looked_52 (z_ans0 ?_)
          have a6b2 : ag6 ((zp J (t + 1) (bgameF (J (t + 1)) k)) (t + 1)) (I (t + 1)) := by rw [zp_s]; exact a6b
          refine z_il2 g dX4_looked_55 ?_
          refine z_al0 g dX4_looked_56 ?_
          refine zg4_1 g q1243 (Or.inl rfl) (by assumption) dX4_looked_57 (by assumption) ?_
          refine z_bipush g dX4_looked_60 zkb_8 ?_
          refine z_iald (k := 0) g rfl (by assumption) (by omega) (by omega) dX4_looked_62 ?_
          refine z_icmp_ge_f (tgt := 84) g dX4_looked_63 (by decide) (by rw [a6b2 8 (by decide), hb8]; exact nI_ge (by omega) (by omega)) ?_
          refine z_al0 g dX4_looked_66 ?_
          refine zg4_1 g q1243 (Or.inl rfl) (by assumption) dX4_looked_67 (by assumption) ?_
          refine z_iconst g dX4_looked_70 zki_1 ?_
          refine z_iald (k := 0) g rfl (by assumption) (by omega) (by omega) dX4_looked_71 ?_
          refine z_al0 g dX4_looked_72 ?_
          refine zg4_1 g q1243 (Or.inl rfl) (by assumption) dX4_looked_73 (by assumption) ?_
          refine z_bipush g dX4_looked_76 zkb_66 ?_
          refine z_il2 g dX4_looked_78 ?_
          first | with_reducible refine z_iaddN g dX4_looked_79 ?_ | refine z_iadd g dX4_looked_79 ?_
          refine z_iald (k := 0) g rfl (by assumption) (by omega) (by omega) dX4_looked_80 ?_
          refine z_icmp_eq (tgt := 88) g dX4_looked_81 (by decide) (fun c81 => ?_) (fun c81 => ?_)
          · skip
            rw [if_pos ⟨hk8, by rw [zp_s, a6b (66 + k) (by omega)] at c81; exact c81⟩] at hr
            refine z_il1 g dX4_looked_88 ?_
            refine z_is1 g dX4_looked_89 rfl ?_
            first | with_reducible refine z_inc2 g dX4_looked_90 (zinc1 _) rfl ?_ | refine z_inc2 g dX4_looked_90 rfl rfl ?_
            refine z_goto (tgt := 22) g dX4_looked_93 (by decide) ?_
            exact ih (k + 1) (zp J (t + 1) (bgameF (J (t + 1)) k)) (by omega) (gJ.put (Or.inl rfl)) a6b2 (fun j hj => by rw [zp_n (by omega)]; exact hF j hj) (by rw [zp_s]; exact hr)
          · skip
            rw [if_neg (fun q => c81 (by rw [zp_s, a6b (66 + k) (by omega)]; exact q.2))] at hr
            refine z_il2 g dX4_looked_84 ?_
            refine z_goto (tgt := 89) g dX4_looked_85 (by decide) ?_
            refine z_is1 g dX4_looked_89 rfl ?_
            first | with_reducible refine z_inc2 g dX4_looked_90 (zinc1 _) rfl ?_ | refine z_inc2 g dX4_looked_90 rfl rfl ?_
            refine z_goto (tgt := 22) g dX4_looked_93 (by decide) ?_
            have hq : nI k = (lookR (I (t + 1)) nt 0 (I (t + 1))) := hr
            by_cases hlast : k + 1 = nt
            · skip
              refine z_il2 g dX4_looked_22 ?_
              refine z_al0 g dX4_looked_23 ?_
              refine zg4_1 g q1243 (Or.inl rfl) (by assumption) dX4_looked_24 (by assumption) ?_
              refine z_bipush g dX4_looked_27 zkb_9 ?_
              refine z_iald (k := 0) g rfl (by assumption) (by omega) (by omega) dX4_looked_29 ?_
              refine z_icmp_ge_t (tgt := 96) g dX4_looked_30 (by decide) (by rw [a6b2 9 (by decide), h9, hlast]; exact Int32.le_refl _) ?_
              rw [hq]
              exact fin (zp J (t + 1) (bgameF (J (t + 1)) k)) _ (gJ.put (Or.inl rfl)) a6b2 (fun j hj => by rw [zp_n (by omega)]; exact hF j hj)
            · skip
              refine z_il2 g dX4_looked_22 ?_
              refine z_al0 g dX4_looked_23 ?_
              refine zg4_1 g q1243 (Or.inl rfl) (by assumption) dX4_looked_24 (by assumption) ?_
              refine z_bipush g dX4_looked_27 zkb_9 ?_
              refine z_iald (k := 0) g rfl (by assumption) (by omega) (by omega) dX4_looked_29 ?_
              refine z_icmp_ge_f (tgt := 96) g dX4_looked_30 (by decide) (by rw [a6b2 9 (by decide), h9]; exact nI_ge (by omega) (by omega)) ?_
              refine z_il1 g dX4_looked_33 ?_
              refine z_bipush g dX4_looked_34 zkb_m5 ?_
              refine z_icmp_ne_t (tgt := 96) g dX4_looked_36 (by decide) (nI_m5 (by omega)) ?_
              rw [hq]
              exact fin (zp J (t + 1) (bgameF (J (t + 1)) k)) _ (gJ.put (Or.inl rfl)) a6b2 (fun j hj => by rw [zp_n (by omega)]; exact hF j hj)
        · have hk8 : ¬ nI k < nI nb := nI_nlt (by omega) (by omega)
          rw [show lookR (I (t + 1)) (m + 1) k (J (t + 1)) = (if nI k < I (t + 1) 8 ∧ (if nI k < I (t + 1) 8 then bgameF (J (t + 1)) k else (J (t + 1))) 1 = I (t + 1) (66 + k) then lookR (I (t + 1)) m (k + 1) (if nI k < I (t + 1) 8 then bgameF (J (t + 1)) k else (J (t + 1))) else nI k) from rfl, hb8, if_neg (fun q => hk8 q.1)] at hr
          refine z_il2 g dX4_looked_22 ?_
          refine z_al0 g dX4_looked_23 ?_
          refine zg4_1 g q1243 (Or.inl rfl) (by assumption) dX4_looked_24 (by assumption) ?_
          refine z_bipush g dX4_looked_27 zkb_9 ?_
          refine z_iald (k := 0) g rfl (by assumption) (by omega) (by omega) dX4_looked_29 ?_
          refine z_icmp_ge_f (tgt := 96) g dX4_looked_30 (by decide) (by rw [a6 9 (by decide), h9]; exact nI_ge (by omega) (by omega)) ?_
          refine z_il1 g dX4_looked_33 ?_
          refine z_bipush g dX4_looked_34 zkb_m5 ?_
          refine z_icmp_ne_f (tgt := 96) g dX4_looked_36 (by decide) (rfl) ?_
          refine z_il2 g dX4_looked_39 ?_
          refine z_al0 g dX4_looked_40 ?_
          refine zg4_1 g q1243 (Or.inl rfl) (by assumption) dX4_looked_41 (by assumption) ?_
          refine z_bipush g dX4_looked_44 zkb_8 ?_
          refine z_iald (k := 0) g rfl (by assumption) (by omega) (by omega) dX4_looked_46 ?_
          refine z_icmp_ge_t (tgt := 55) g dX4_looked_47 (by decide) (by rw [a6 8 (by decide), hb8]; exact nI_le (by omega) (by omega)) ?_
          refine z_il2 g dX4_looked_55 ?_
          refine z_al0 g dX4_looked_56 ?_
          refine zg4_1 g q1243 (Or.inl rfl) (by assumption) dX4_looked_57 (by assumption) ?_
          refine z_bipush g dX4_looked_60 zkb_8 ?_
          refine z_iald (k := 0) g rfl (by assumption) (by omega) (by omega) dX4_looked_62 ?_
          refine z_icmp_ge_t (tgt := 84) g dX4_looked_63 (by decide) (by rw [a6 8 (by decide), hb8]; exact nI_le (by omega) (by omega)) ?_
          refine z_il2 g dX4_looked_84 ?_
          refine z_goto (tgt := 89) g dX4_looked_85 (by decide) ?_
          refine z_is1 g dX4_looked_89 rfl ?_
          first | with_reducible refine z_inc2 g dX4_looked_90 (zinc1 _) rfl ?_ | refine z_inc2 g dX4_looked_90 rfl rfl ?_
          refine z_goto (tgt := 22) g dX4_looked_93 (by decide) ?_
          have hq : nI k = (lookR (I (t + 1)) nt 0 (I (t + 1))) := hr
          by_cases hlast : k + 1 = nt
          · skip
            refine z_il2 g dX4_looked_22 ?_
            refine z_al0 g dX4_looked_23 ?_
            refine zg4_1 g q1243 (Or.inl rfl) (by assumption) dX4_looked_24 (by assumption) ?_
            refine z_bipush g dX4_looked_27 zkb_9 ?_
            refine z_iald (k := 0) g rfl (by assumption) (by omega) (by omega) dX4_looked_29 ?_
            refine z_icmp_ge_t (tgt := 96) g dX4_looked_30 (by decide) (by rw [a6 9 (by decide), h9, hlast]; exact Int32.le_refl _) ?_
            rw [hq]
            exact fin J _ gJ a6 hF
          · skip
            refine z_il2 g dX4_looked_22 ?_
            refine z_al0 g dX4_looked_23 ?_
            refine zg4_1 g q1243 (Or.inl rfl) (by assumption) dX4_looked_24 (by assumption) ?_
            refine z_bipush g dX4_looked_27 zkb_9 ?_
            refine z_iald (k := 0) g rfl (by assumption) (by omega) (by omega) dX4_looked_29 ?_
            refine z_icmp_ge_f (tgt := 96) g dX4_looked_30 (by decide) (by rw [a6 9 (by decide), h9]; exact nI_ge (by omega) (by omega)) ?_
            refine z_il1 g dX4_looked_33 ?_
            refine z_bipush g dX4_looked_34 zkb_m5 ?_
            refine z_icmp_ne_t (tgt := 96) g dX4_looked_36 (by decide) (nI_m5 (by omega)) ?_
            rw [hq]
            exact fin J _ gJ a6 hF
    refine z_al0 g dX4_looked_13 ?_
    refine z_callV0 g ck_X4_keeps q1507 q1509 qs60 cls4 (by assumption) (c_X4_keeps hL) rfl (Nat.le_of_ble_eq_true rfl) (by omega) (by omega) (by omega) dX4_looked_14 (z_ans0 ?_)
    refine z_bipush g dX4_looked_17 zkb_m5 ?_
    refine z_is1 g dX4_looked_19 rfl ?_
    refine z_iconst g dX4_looked_20 zki_0 ?_
    refine z_is2 g dX4_looked_21 rfl ?_
    have e0 : (zp I (t + 3) (zfst 6 (I (t + 1)) (I (t + 3)))) (t + 1) = I (t + 1) := zp_n (by omega)
    exact loop nt 0 _ (by omega) (zag.rf.put (Or.inr (Or.inl rfl))) (by rw [e0]; exact ag6_rf) (fun j hj => by rw [zp_s]; exact if_pos hj) (by rw [e0])
  · skip
    refine z_bipush g dX4_looked_10 zkb_m3 ?_
    refine z_iret g r (by omega) (by omega) dX4_looked_12 ?_
    exact ⟨I, zag.rf, by first | (simp [lookedF, *]; done) | (simp_all [lookedF]; done), rfl, rfl, rfl, rfl, rfl⟩

