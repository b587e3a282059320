/-! ===== the twin: orders ===== -/
set_option maxRecDepth 100000
theorem T2.t8 {t : Nat} : ¬ T2 t (t + 8) := fun q => by unfold T2 at q; omega
theorem T2.t9 {t : Nat} : ¬ T2 t (t + 9) := fun q => by unfold T2 at q; omega
theorem T2.t10 {t : Nat} : ¬ T2 t (t + 10) := fun q => by unfold T2 at q; omega
set_option maxHeartbeats 8000000 in
theorem c_X4_wonBy {E : ZE} {n : Nat} {T : ZT} {L : ZL} {R : ZR} {t p : Nat} (hL : TL T R t) (hp : p < 5) (sz : Nat) (hsz : sz ≤ 4) : ∀ (qs : List Nat) (I : ZI) (k : Nat), k + qs.length = sz → (∀ j : Nat, j < qs.length → I (t + 8) (k + j) = nI (qs.getD j 0)) → (∀ q ∈ qs, q < 5) → oddOK (I (t + 1)) → gok qs.length (I (t + 1)) → zM E yX4_wonBy cX4_wonBy 9 (some (Jvm.ClassFile.FieldType.long)) (3 + qs.length) 0 0 [.ref t, .int (nI p), .int (nI k), .int (nI sz)] n T I L R (zsc t (some (.long (wonF p qs (I (t + 1))))) n T I L R) := by
  intro qs
  induction qs with
  | nil =>
    intro I k hk hr h5 hO hg
    have hk : k = sz := hk
    refine zM.of (lv0 := [some (.ref t), some (.int (nI p)), some (.int (nI k)), some (.int (nI sz)), none, none, none, none, none]) pn_X4 (Nat.le_of_ble_eq_true rfl) rfl fun G g r hin hlt hbn => ?_
    have g : zGd E G cX4_wonBy RX4 9 (3 + 0) 0 0 := g
    have hL0 := hL
    obtain ⟨hT, h1, ht1, h2, ht2, h3, ht3, h10, ht4, h11, ht5, ht6, ht7, h16, ht8, h17, ht9, h19, ht10⟩ := hL0
    refine z_il2 g dX4_wonBy_0 ?_
    refine z_il3 g dX4_wonBy_1 ?_
    refine z_icmp_ne_f (tgt := 7) g dX4_wonBy_2 (by decide) (by rw [hk]) ?_
    refine z_lconst (v := 0) g dX4_wonBy_5 rfl ?_
    refine z_lret g r (by omega) (by omega) dX4_wonBy_6 ?_
    exact ⟨I, zag.rf, rfl, rfl, rfl, rfl, rfl, rfl⟩
  | cons q qs ih =>
    intro I k hk hr h5 hO hg
    simp only [List.length_cons] at hk hg
    have hne : ¬ nI k = nI sz := fun e => by have := (nI_eq (by omega) (by omega)).mp e; omega
    have hq : q < 5 := h5 q List.mem_cons_self
    have hq0 : I (t + 8) k = nI q := hr 0 (by simp)
    have hr2 : ∀ j : Nat, j < qs.length → I (t + 8) (k + 1 + j) = nI (qs.getD j 0) := fun j hj => by
      have := hr (j + 1) (by simp; omega)
      rw [show k + 1 + j = k + (j + 1) by omega]
      exact this
    have ho1 := oddOK_ag (win_ag hp) hO (gok_le (win_gok hg) (Nat.zero_le _))
    have ho2 := oddOK_ag (los_ag hp) hO (gok_le (los_gok hg) (Nat.zero_le _))
    refine zM.of (lv0 := [some (.ref t), some (.int (nI p)), some (.int (nI k)), some (.int (nI sz)), none, none, none, none, none]) pn_X4 (Nat.le_of_ble_eq_true rfl) rfl fun G g r hin hlt hbn => ?_
    have g : zGd E G cX4_wonBy RX4 9 (3 + (qs.length + 1)) 0 0 := g
    have hL0 := hL
    obtain ⟨hT, h1, ht1, h2, ht2, h3, ht3, h10, ht4, h11, ht5, ht6, ht7, h16, ht8, h17, ht9, h19, ht10⟩ := hL0
    refine z_il2 g dX4_wonBy_0 ?_
    refine z_il3 g dX4_wonBy_1 ?_
    refine z_icmp_ne_t (tgt := 7) g dX4_wonBy_2 (by decide) (hne) ?_
    refine z_al0 g dX4_wonBy_7 ?_
    refine zg4_16 g q1258 (Or.inl rfl) (by assumption) dX4_wonBy_8 (by assumption) ?_
    refine z_il2 g dX4_wonBy_11 ?_
    refine z_iald (k := 0) g rfl (by assumption) (by omega) (by omega) dX4_wonBy_12 ?_
    refine z_top hq0 ?_
    refine z_is4 g dX4_wonBy_13 rfl ?_
    refine z_al0 g dX4_wonBy_15 ?_
    refine z_il1 g dX4_wonBy_16 ?_
    refine z_il4 g dX4_wonBy_17 ?_
    refine z_callV2 g ck_X4_oddsOf q1474 q1476 qs54 cls4 (by assumption) (cs_X4_oddsOf hL hO hp hq) rfl (Nat.le_of_ble_eq_true rfl) (by omega) (by omega) (by omega) dX4_wonBy_19 (z_ex fun I1 g1 => z_ans1 ?_)
    have e1 : I1 (t + 1) = I (t + 1) := g1.row
    have f1 : I1 (t + 8) = I (t + 8) := g1 _ T2.t8
    refine z_is5 g dX4_wonBy_22 rfl ?_
    refine z_al0 g dX4_wonBy_24 ?_
    refine zg4_1 g q1243 (Or.inl rfl) (by assumption) dX4_wonBy_25 (by assumption) ?_
    refine z_iconst g dX4_wonBy_28 zki_1 ?_
    refine z_il1 g dX4_wonBy_29 ?_
    first | with_reducible refine z_iaddN g dX4_wonBy_30 ?_ | refine z_iadd g dX4_wonBy_30 ?_
    refine z_iald (k := 0) g rfl (by assumption) (by omega) (by omega) dX4_wonBy_31 ?_
    refine z_is6 g dX4_wonBy_32 rfl ?_
    rw [e1]
    refine z_al0 g dX4_wonBy_34 ?_
    refine zg4_1 g q1243 (Or.inl rfl) (by assumption) dX4_wonBy_35 (by assumption) ?_
    refine z_iconst g dX4_wonBy_38 zki_0 ?_
    refine z_dup2 g dX4_wonBy_39 rfl rfl ?_
    refine z_iald (k := 0) g rfl (by assumption) (by omega) (by omega) dX4_wonBy_40 ?_
    refine z_iconst g dX4_wonBy_41 zki_1 ?_
    first | with_reducible refine z_iaddN g dX4_wonBy_42 ?_ | refine z_iadd g dX4_wonBy_42 ?_
    refine z_iast (k := 0) g rfl (by decide) (by assumption) (by omega) (by omega) dX4_wonBy_43 ?_
    refine z_al0 g dX4_wonBy_44 ?_
    refine zg4_1 g q1243 (Or.inl rfl) (by assumption) dX4_wonBy_45 (by assumption) ?_
    refine z_iconst g dX4_wonBy_48 zki_1 ?_
    refine z_il1 g dX4_wonBy_49 ?_
    first | with_reducible refine z_iaddN g dX4_wonBy_50 ?_ | refine z_iadd g dX4_wonBy_50 ?_
    refine z_al0 g dX4_wonBy_51 ?_
    refine z_il6 g dX4_wonBy_52 ?_
    refine z_callV1 g ck_X4_fewer q1486 q1488 qs56 cls4 (by assumption) (c_X4_fewer hL (by rw [zp_s, zp_n (by omega), e1]; exact hO.1)) rfl (Nat.le_of_ble_eq_true rfl) (by omega) (by omega) (by omega) dX4_wonBy_54 (z_ans1 ?_)
    refine z_iast (k := 0) g rfl (by decide) (by assumption) (by omega) (by omega) dX4_wonBy_57 ?_
    refine z_mem rfl rfl (show _ = zp I1 (t + 1) (winF (I (t + 1)) p) from by simp only [zp_zp, zp_s, e1]; rw [win_mk]) rfl rfl ?_
    refine z_il5 g dX4_wonBy_58 ?_
    refine z_i2l g dX4_wonBy_60 ?_
    refine z_il3 g dX4_wonBy_61 ?_
    refine z_iconst g dX4_wonBy_62 zki_1 ?_
    first | with_reducible refine z_isubN g dX4_wonBy_63 (by omega) ?_ | refine z_isub g dX4_wonBy_63 ?_
    refine z_il2 g dX4_wonBy_64 ?_
    first | with_reducible refine z_isubN g dX4_wonBy_65 (by omega) ?_ | refine z_isub g dX4_wonBy_65 ?_
    refine z_callS1 g ck_X4_tens q1524 q1525 (c_X4_tens (by omega)) rfl (Nat.le_of_ble_eq_true rfl) (by omega) (by omega) (by omega) dX4_wonBy_66 (z_ans1 ?_)
    rw [show sz - 1 - k = qs.length by omega]
    refine z_al0 g dX4_wonBy_69 ?_
    refine z_il1 g dX4_wonBy_70 ?_
    refine z_il2 g dX4_wonBy_71 ?_
    refine z_iconst g dX4_wonBy_72 zki_1 ?_
    first | with_reducible refine z_iaddN g dX4_wonBy_73 ?_ | refine z_iadd g dX4_wonBy_73 ?_
    refine z_il3 g dX4_wonBy_74 ?_
    refine z_callV3 g ck_X4_wonBy q1583 q1585 qs69 cls4 (by assumption) (ih (zp I1 (t + 1) (winF (I (t + 1)) p)) (k + 1) (by omega) (by rw [zp_n (by omega), f1]; exact hr2) (fun x hx => h5 x (List.mem_cons_of_mem _ hx)) (by rw [zp_s]; exact ho1) (by rw [zp_s]; exact win_gok hg)) rfl (Nat.le_of_ble_eq_true rfl) (by omega) (by omega) (by omega) dX4_wonBy_75 (z_ex fun I2 g2 => z_ans1 ?_)
    have e2 : I2 (t + 1) = winF (I (t + 1)) p := g2.row.trans zp_s
    have f2 : I2 (t + 8) = I (t + 8) := (g2 _ T2.t8).trans ((zp_n (by omega)).trans f1)
    rw [zp_s]
    refine z_ladd g dX4_wonBy_78 ?_
    refine z_lmul g dX4_wonBy_79 ?_
    refine z_ls7 g dX4_wonBy_80 rfl ?_
    refine z_al0 g dX4_wonBy_82 ?_
    refine zg4_1 g q1243 (Or.inl rfl) (by assumption) dX4_wonBy_83 (by assumption) ?_
    refine z_iconst g dX4_wonBy_86 zki_1 ?_
    refine z_il1 g dX4_wonBy_87 ?_
    first | with_reducible refine z_iaddN g dX4_wonBy_88 ?_ | refine z_iadd g dX4_wonBy_88 ?_
    refine z_al0 g dX4_wonBy_89 ?_
    refine z_il6 g dX4_wonBy_90 ?_
    refine z_callV1 g ck_X4_moreOf q1490 q1492 qs57 cls4 (by assumption) (c_X4_moreOf hL (by rw [e2, win_ag hp 11 (by decide)]; exact hO.1)) rfl (Nat.le_of_ble_eq_true rfl) (by omega) (by omega) (by omega) dX4_wonBy_92 (z_ans1 ?_)
    refine z_iast (k := 0) g rfl (by decide) (by assumption) (by omega) (by omega) dX4_wonBy_95 ?_
    refine z_mem rfl rfl (show _ = zp I2 (t + 1) (losF (I (t + 1)) p) from by rw [e2, los_mk hp]) rfl rfl ?_
    refine z_ll7 g dX4_wonBy_96 ?_
    refine z_bipush g dX4_wonBy_98 zkb_10 ?_
    refine z_il5 g dX4_wonBy_100 ?_
    first | with_reducible refine z_isubN g dX4_wonBy_102 (by omega) ?_ | refine z_isub g dX4_wonBy_102 ?_
    refine z_i2l g dX4_wonBy_103 ?_
    refine z_al0 g dX4_wonBy_104 ?_
    refine z_il1 g dX4_wonBy_105 ?_
    refine z_il2 g dX4_wonBy_106 ?_
    refine z_iconst g dX4_wonBy_107 zki_1 ?_
    first | with_reducible refine z_iaddN g dX4_wonBy_108 ?_ | refine z_iadd g dX4_wonBy_108 ?_
    refine z_il3 g dX4_wonBy_109 ?_
    refine z_callV3 g ck_X4_wonBy q1583 q1585 qs69 cls4 (by assumption) (ih (zp I2 (t + 1) (losF (I (t + 1)) p)) (k + 1) (by omega) (by rw [zp_n (by omega), f2]; exact hr2) (fun x hx => h5 x (List.mem_cons_of_mem _ hx)) (by rw [zp_s]; exact ho2) (by rw [zp_s]; exact los_gok hg)) rfl (Nat.le_of_ble_eq_true rfl) (by omega) (by omega) (by omega) dX4_wonBy_110 (z_ex fun I3 g3 => z_ans1 ?_)
    have e3 : I3 (t + 1) = losF (I (t + 1)) p := g3.row.trans zp_s
    rw [zp_s]
    refine z_lmul g dX4_wonBy_113 ?_
    refine z_ladd g dX4_wonBy_114 ?_
    refine z_ls7 g dX4_wonBy_115 rfl ?_
    refine z_al0 g dX4_wonBy_117 ?_
    refine zg4_1 g q1243 (Or.inl rfl) (by assumption) dX4_wonBy_118 (by assumption) ?_
    refine z_iconst g dX4_wonBy_121 zki_1 ?_
    refine z_il1 g dX4_wonBy_122 ?_
    first | with_reducible refine z_iaddN g dX4_wonBy_123 ?_ | refine z_iadd g dX4_wonBy_123 ?_
    refine z_il6 g dX4_wonBy_124 ?_
    refine z_iast (k := 0) g rfl (by decide) (by assumption) (by omega) (by omega) dX4_wonBy_126 ?_
    refine z_al0 g dX4_wonBy_127 ?_
    refine zg4_1 g q1243 (Or.inl rfl) (by assumption) dX4_wonBy_128 (by assumption) ?_
    refine z_iconst g dX4_wonBy_131 zki_0 ?_
    refine z_dup2 g dX4_wonBy_132 rfl rfl ?_
    refine z_iald (k := 0) g rfl (by assumption) (by omega) (by omega) dX4_wonBy_133 ?_
    refine z_iconst g dX4_wonBy_134 zki_1 ?_
    first | with_reducible refine z_isubN g dX4_wonBy_135 (by omega) ?_ | refine z_isub g dX4_wonBy_135 ?_
    refine z_iast (k := 0) g rfl (by decide) (by assumption) (by omega) (by omega) dX4_wonBy_136 ?_
    refine z_mem rfl rfl (show _ = zp I3 (t + 1) (I (t + 1)) from by simp only [zp_zp, zp_s, e3]; rw [los_back]) rfl rfl ?_
    refine z_ll7 g dX4_wonBy_137 ?_
    refine z_lret g r (by omega) (by omega) dX4_wonBy_139 ?_
    refine ⟨zp I3 (t + 1) (I (t + 1)), zag.dn2 ?_ zp_s, rfl, rfl, rfl, rfl, rfl, rfl⟩
    exact ((((g1.up3).put (Or.inl rfl)).trans g2.up3 |>.put (Or.inl rfl)).trans g3.up3).put (Or.inl rfl)
theorem orow_put {k j : Nat} {f h : SV} : zp (fun x => if x < j then (if x < k then f x else -5) else h x) j (if j < k then f j else -5) = (fun x => if x < j + 1 then (if x < k then f x else -5) else h x) := by
  funext x
  unfold zp
  by_cases e : x = j
  · rw [if_pos e, e, if_pos (Nat.lt_succ_self j)]
  · rw [if_neg e]
    show (if x < j then (if x < k then f x else -5) else h x) = _
    by_cases e2 : x < j
    · rw [if_pos e2]
      exact (if_pos (show x < j + 1 by omega)).symm
    · rw [if_neg e2]
      exact (if_neg (show ¬ x < j + 1 by omega)).symm
/-- rows of the orders -/
def T8 (t : Nat) : Nat → Prop := fun b => b = t + 4 ∨ b = t + 5 ∨ b = t + 8 ∨ b = t + 9
theorem T8.of {t b : Nat} (h : T2 t b) : T8 t b := by
  unfold T2 at h
  unfold T8
  omega
theorem T8.t1 {t : Nat} : ¬ T8 t (t + 1) := fun q => by unfold T8 at q; omega
/-- an orders' state behind a method -/
def zor (t : Nat) (s : OS) (n : Nat) (T : ZT) (I : ZI) (L : ZL) (R : ZR) : ZP := zex (fun I' : ZI => zag (T8 t) I I' ∧ I' (t + 8) = s.1 ∧ I' (t + 9) = s.2.2) (fun I' => zis none n T I' (zp L t (zp (L t) 18 s.2.1)) R)
set_option maxHeartbeats 8000000 in
theorem c_X4_ordersFrom {E : ZE} {n : Nat} {T : ZT} {R : ZR} {t p np : Nat} (hL : TL T R t) (hp : p < 5) (hnp : np ≤ 5) : ∀ (f m k : Nat) (I : ZI) (L : ZL), m < 32 → m < f → pcN m + k ≤ 4 → ordOK k (I (t + 8)) → I (t + 1) 6 = nI np → oddOK (I (t + 1)) → gok 4 (I (t + 1)) → zM E yX4_ordersFrom cX4_ordersFrom 7 none (8 + f) 0 0 [.ref t, .int (nI p), .int (nI m), .int (nI k)] n T I L R (zor t (ordF (I (t + 1)) p np f m k (I (t + 8), L t 18, I (t + 9))) n T I L R) := by
  intro f
  induction f with
  | zero => intro m k I L h1 h2; exact absurd h2 (Nat.not_lt_zero _)
  | succ f ih =>
  intro m k I L hm hf hpk hok hN hO hg
  by_cases h0 : m = 0
  · subst h0
    have hk4 : k ≤ 4 := by omega
    have hlen : (ordsOf (I (t + 8)) k).length = k := by simp [ordsOf]
    have hget : ∀ j : Nat, j < k → (ordsOf (I (t + 8)) k).getD j 0 = (I (t + 8) j).toNatClampNeg := fun j hj => by
      unfold ordsOf
      rw [List.getD_eq_getElem?_getD, List.getElem?_map, List.getElem?_range hj]
      rfl
    have hwon : zM E yX4_wonBy cX4_wonBy 9 (some (Jvm.ClassFile.FieldType.long)) (3 + k) 0 0 [.ref t, .int (nI p), .int (nI 0), .int (nI k)] n T I L R (zsc t (some (.long (wonF p (ordsOf (I (t + 8)) k) (I (t + 1))))) n T I L R) := by
      have h := c_X4_wonBy (E := E) (n := n) (L := L) hL hp k hk4 (ordsOf (I (t + 8)) k) I 0 (by omega) (fun j hj => by
        rw [hlen] at hj
        rw [hget j hj, Nat.zero_add]
        obtain ⟨q, h1, h2⟩ := hok j hj
        rw [h2, cl_nI (by omega)]) (fun q hq => by
        unfold ordsOf at hq
        obtain ⟨j, hj, rfl⟩ := List.mem_map.mp hq
        obtain ⟨q, h1, h2⟩ := hok j (List.mem_range.mp hj)
        rw [h2, cl_nI (by omega)]
        exact h1) hO (gok_le hg (by omega))
      rw [hlen] at h
      exact h
    have hend : ordF (I (t + 1)) p np (f + 1) 0 k (I (t + 8), L t 18, I (t + 9)) = ordEnd (I (t + 1)) p k (I (t + 8), L t 18, I (t + 9)) := if_pos rfl
    have hb1 : nI 0 = (0 : Int32) := rfl
    refine zM.of (lv0 := [some (.ref t), some (.int (nI p)), some (.int (nI 0)), some (.int (nI k)), none, none, none]) pn_X4 (Nat.le_of_ble_eq_true rfl) rfl fun G g r hin hlt hbn => ?_
    have g : zGd E G cX4_ordersFrom RX4 7 (8 + (f + 1)) 0 0 := g
    have hL0 := hL
    obtain ⟨hT, h1, ht1, h2, ht2, h3, ht3, h10, ht4, h11, ht5, ht6, ht7, h16, ht8, h17, ht9, h19, ht10⟩ := hL0
    have loop : ∀ (J : ZI), zag (T2 t) I J → L t 18 < (wonF p (ordsOf (I (t + 8)) k) (I (t + 1))) → ∀ (r j : Nat), j + r = 4 → Z E G 0 0 n T (zp J (t + 9) (fun x => if x < j then (if x < k then I (t + 8) x else -5) else I (t + 9) x)) (zp L t (zp (L t) 18 (wonF p (ordsOf (I (t + 8)) k) (I (t + 1))))) R 32 [some (.ref t), some (.int (nI p)), some (.int (nI 0)), some (.int (nI k)), some (.long (wonF p (ordsOf (I (t + 8)) k) (I (t + 1)))), none, some (.int (nI j))] [] := by
      intro J gJ hlt r
      induction r with
      | zero =>
        intro j hj
        obtain rfl : j = 4 := hj
        refine z_il6 g dX4_ordersFrom_32 ?_
        refine z_iconst g dX4_ordersFrom_34 zki_4 ?_
        refine z_icmp_ge_t (tgt := 69) g dX4_ordersFrom_35 (by decide) (by decide +kernel) ?_
        refine z_vret g r (by omega) (by omega) dX4_ordersFrom_69 ?_
        rw [hend]
        unfold ordEnd
        rw [if_pos hlt]
        refine ⟨_, ⟨(gJ.mono fun _ q => T8.of q).put (by unfold T8; omega), ?_, zp_s⟩, rfl, rfl, rfl, rfl, rfl, rfl⟩
        rw [zp_n (by omega)]
        exact gJ _ T2.t8
      | succ r ih2 =>
        intro j hj
        refine z_il6 g dX4_ordersFrom_32 ?_
        refine z_iconst g dX4_ordersFrom_34 zki_4 ?_
        refine z_icmp_ge_f (tgt := 69) g dX4_ordersFrom_35 (by decide) (nI_ge (by omega) (by omega)) ?_
        refine z_al0 g dX4_ordersFrom_38 ?_
        refine zg4_17 g q1259 (Or.inl rfl) (by assumption) dX4_ordersFrom_39 (by assumption) ?_
        refine z_il6 g dX4_ordersFrom_42 ?_
        refine z_il6 g dX4_ordersFrom_44 ?_
        refine z_il3 g dX4_ordersFrom_46 ?_
        refine z_icmp_ge (tgt := 60) g dX4_ordersFrom_47 (by decide) (fun c47 => ?_) (fun c47 => ?_)
        · skip
          have d47 : ¬ j < k := fun q => nI_ge q (by omega) c47
          refine z_bipush g dX4_ordersFrom_60 zkb_m5 ?_
          refine z_top (show _ = (if j < k then I (t + 8) j else -5) from by first | (rw [if_neg d47]; done) | (rw [if_pos d47, zp_n (by omega), gJ _ T2.t8]; done)) ?_
          refine z_iast (k := 0) g rfl (by decide) (by assumption) (by omega) (by omega) dX4_ordersFrom_62 ?_
          rw [zp_zp, zp_s, orow_put]
          first | with_reducible refine z_inc6 g dX4_ordersFrom_63 (zinc1 _) rfl ?_ | refine z_inc6 g dX4_ordersFrom_63 rfl rfl ?_
          refine z_goto (tgt := 32) g dX4_ordersFrom_66 (by decide) ?_
          exact ih2 (j + 1) (by omega)
        · skip
          have d47 : j < k := Nat.lt_of_not_le fun q => c47 (nI_le q (by omega))
          refine z_al0 g dX4_ordersFrom_50 ?_
          refine zg4_16 g q1258 (Or.inl rfl) (by assumption) dX4_ordersFrom_51 (by assumption) ?_
          refine z_il6 g dX4_ordersFrom_54 ?_
          refine z_iald (k := 0) g rfl (by assumption) (by omega) (by omega) dX4_ordersFrom_56 ?_
          refine z_goto (tgt := 62) g dX4_ordersFrom_57 (by decide) ?_
          refine z_top (show _ = (if j < k then I (t + 8) j else -5) from by first | (rw [if_neg d47]; done) | (rw [if_pos d47, zp_n (by omega), gJ _ T2.t8]; done)) ?_
          refine z_iast (k := 0) g rfl (by decide) (by assumption) (by omega) (by omega) dX4_ordersFrom_62 ?_
          rw [zp_zp, zp_s, orow_put]
          first | with_reducible refine z_inc6 g dX4_ordersFrom_63 (zinc1 _) rfl ?_ | refine z_inc6 g dX4_ordersFrom_63 rfl rfl ?_
          refine z_goto (tgt := 32) g dX4_ordersFrom_66 (by decide) ?_
          exact ih2 (j + 1) (by omega)
    refine z_il2 g dX4_ordersFrom_0 ?_
    refine z_if_ne_f (tgt := 70) g dX4_ordersFrom_1 (by decide) (rfl) ?_
    refine z_al0 g dX4_ordersFrom_4 ?_
    refine z_il1 g dX4_ordersFrom_5 ?_
    refine z_iconst g dX4_ordersFrom_6 zki_0 ?_
    refine z_il3 g dX4_ordersFrom_7 ?_
    refine z_callV3 g ck_X4_wonBy q1583 q1585 qs69 cls4 (by assumption) hwon rfl (Nat.le_of_ble_eq_true rfl) (by omega) (by omega) (by omega) dX4_ordersFrom_8 (z_ex fun I1 g1 => z_ans1 ?_)
    refine z_ls4 g dX4_ordersFrom_11 rfl ?_
    refine z_ll4 g dX4_ordersFrom_13 ?_
    refine z_al0 g dX4_ordersFrom_15 ?_
    refine zg4_18 g q1260 (Or.inl rfl) (by assumption) dX4_ordersFrom_16 ?_
    refine z_lcmp g dX4_ordersFrom_19 ?_
    refine z_if_le (tgt := 69) g dX4_ordersFrom_20 (by decide) (fun c20 => ?_) (fun c20 => ?_)
    · skip
      rw [lg_cmp_le] at c20
      have c20 := Int64.not_lt.mpr c20
      refine z_vret g r (by omega) (by omega) dX4_ordersFrom_69 ?_
      rw [hend]
      unfold ordEnd
      rw [if_neg c20]
      exact ⟨I1, ⟨g1.mono fun _ q => T8.of q, g1 _ T2.t8, g1 _ T2.t9⟩, rfl, rfl, rfl, rfl, by rw [zp_self, zp_self], rfl⟩
    · skip
      rw [lg_cmp_le] at c20
      have c20 := Int64.not_le.mp c20
      refine z_al0 g dX4_ordersFrom_23 ?_
      refine z_ll4 g dX4_ordersFrom_24 ?_
      refine zs4_18 g q1260 (Or.inl rfl) (by assumption) dX4_ordersFrom_26 ?_
      refine z_iconst g dX4_ordersFrom_29 zki_0 ?_
      refine z_is6 g dX4_ordersFrom_30 rfl ?_
      have h := loop I1 g1 c20 4 0 rfl
      rw [show zp I1 (t + 9) (fun x => if x < 0 then (if x < k then I (t + 8) x else -5) else I (t + 9) x) = I1 from by rw [show (fun x => if x < 0 then (if x < k then I (t + 8) x else -5) else I (t + 9) x) = I1 (t + 9) from by rw [g1 _ T2.t9]; rfl, zp_self]] at h
      exact h
  have h0i : ¬ nI m = 0 := fun e => h0 ((nI_eq (b := 0) (by omega) (by decide)).mp e)
  have hpc : 1 ≤ pcN m := pcN_0 m hm h0
  have hst : ordF (I (t + 1)) p np (f + 1) m k (I (t + 8), L t 18, I (t + 9)) = ordStep (ordF (I (t + 1)) p np f) m k np (I (t + 8), L t 18, I (t + 9)) := if_neg h0
  refine zM.of (lv0 := [some (.ref t), some (.int (nI p)), some (.int (nI m)), some (.int (nI k)), none, none, none]) pn_X4 (Nat.le_of_ble_eq_true rfl) rfl fun G g r hin hlt hbn => ?_
  have g : zGd E G cX4_ordersFrom RX4 7 (8 + (f + 1)) 0 0 := g
  have hL0 := hL
  obtain ⟨hT, h1, ht1, h2, ht2, h3, ht3, h10, ht4, h11, ht5, ht6, ht7, h16, ht8, h17, ht9, h19, ht10⟩ := hL0
  have loop : ∀ (r q : Nat) (J : ZI), q + r = np → zag (T8 t) I J → J (t + 8) = (ordStep (ordF (I (t + 1)) p np f) m k q (I (t + 8), L t 18, I (t + 9))).1 → J (t + 9) = (ordStep (ordF (I (t + 1)) p np f) m k q (I (t + 8), L t 18, I (t + 9))).2.2 → Z E G 0 0 n T J (zp L t (zp (L t) 18 (ordStep (ordF (I (t + 1)) p np f) m k q (I (t + 8), L t 18, I (t + 9))).2.1)) R 73 [some (.ref t), some (.int (nI p)), some (.int (nI m)), some (.int (nI k)), some (.int (nI q)), none, none] [] := by
    intro r
    induction r with
    | zero =>
      intro q J hq gJ h8 h9
      obtain rfl : q = np := hq
      have e1 : J (t + 1) = I (t + 1) := gJ _ T8.t1
      refine z_il4 g dX4_ordersFrom_73 ?_
      refine z_al0 g dX4_ordersFrom_75 ?_
      refine zg4_1 g q1243 (Or.inl rfl) (by assumption) dX4_ordersFrom_76 (by assumption) ?_
      refine z_bipush g dX4_ordersFrom_79 zkb_6 ?_
      refine z_iald (k := 0) g rfl (by assumption) (by omega) (by omega) dX4_ordersFrom_81 ?_
      refine z_top (show _ = nI q from by rw [e1]; exact hN) ?_
      refine z_icmp_ge_t (tgt := 125) g dX4_ordersFrom_82 (by decide) (Int32.le_refl _) ?_
      refine z_vret g r (by omega) (by omega) dX4_ordersFrom_125 ?_
      rw [hst]
      exact ⟨J, ⟨gJ, h8, h9⟩, rfl, rfl, rfl, rfl, rfl, rfl⟩
    | succ r ih2 =>
      intro q J hq gJ h8 h9
      have e1 : J (t + 1) = I (t + 1) := gJ _ T8.t1
      have hq5 : q < 5 := by omega
      have hq2 : m / 2 ^ q % 2 < 2 := Nat.mod_lt _ (by decide)
      have hk8 : ordOK k (J (t + 8)) := ordOK_keep hok (fun j hj => by rw [h8, ordStep_keep _ _ _ _ _ _ _ _ _ hj])
      by_cases hbit : m / 2 ^ q % 2 = 1
      · obtain ⟨b1, b2, b3⟩ := bit_off m hm q hq5 hbit
        have hnx : (ordStep (ordF (I (t + 1)) p np f) m k (q + 1) (I (t + 8), L t 18, I (t + 9))) = ordF (I (t + 1)) p np f (m - 2 ^ q) (k + 1) (zp (ordStep (ordF (I (t + 1)) p np f) m k q (I (t + 8), L t 18, I (t + 9))).1 k (nI q), (ordStep (ordF (I (t + 1)) p np f) m k q (I (t + 8), L t 18, I (t + 9))).2) := if_pos hbit
        have hok2 : ordOK (k + 1) (zp (J (t + 8)) k (nI q)) := fun j hj => by
          by_cases hjk : j = k
          · exact ⟨q, hq5, by rw [hjk, zp_s]⟩
          · rw [zp_n hjk]
            exact hk8 j (by omega)
        have hrec := ih (m - 2 ^ q) (k + 1) (zp J (t + 8) (zp (J (t + 8)) k (nI q))) (zp L t (zp (L t) 18 (ordStep (ordF (I (t + 1)) p np f) m k q (I (t + 8), L t 18, I (t + 9))).2.1)) (by omega) (by omega) (by omega) (by rw [zp_s]; exact hok2) (by rw [zp_n (by omega), e1]; exact hN) (by rw [zp_n (by omega), e1]; exact hO) (by rw [zp_n (by omega), e1]; exact hg)
        rw [zp_n (show t + 1 ≠ t + 8 by omega), zp_n (show t + 9 ≠ t + 8 by omega), zp_s, zp_s, e1, h8, h9, zp_s, ← hnx] at hrec
        refine z_il4 g dX4_ordersFrom_73 ?_
        refine z_al0 g dX4_ordersFrom_75 ?_
        refine zg4_1 g q1243 (Or.inl rfl) (by assumption) dX4_ordersFrom_76 (by assumption) ?_
        refine z_bipush g dX4_ordersFrom_79 zkb_6 ?_
        refine z_iald (k := 0) g rfl (by assumption) (by omega) (by omega) dX4_ordersFrom_81 ?_
        refine z_top (show _ = nI np from by rw [e1]; exact hN) ?_
        refine z_icmp_ge_f (tgt := 125) g dX4_ordersFrom_82 (by decide) (nI_ge (by omega) (by omega)) ?_
        refine z_il2 g dX4_ordersFrom_85 ?_
        refine z_il4 g dX4_ordersFrom_86 ?_
        refine z_ishr g dX4_ordersFrom_88 ?_
        refine z_iconst g dX4_ordersFrom_89 zki_1 ?_
        refine z_iand g dX4_ordersFrom_90 ?_
        refine z_top ((bit_shr m hm q hq5).trans (by rw [hbit])) ?_
        refine z_iconst g dX4_ordersFrom_91 zki_1 ?_
        refine z_icmp_ne_f (tgt := 119) g dX4_ordersFrom_92 (by decide) (rfl) ?_
        refine z_al0 g dX4_ordersFrom_95 ?_
        refine zg4_16 g q1258 (Or.inl rfl) (by assumption) dX4_ordersFrom_96 (by assumption) ?_
        refine z_il3 g dX4_ordersFrom_99 ?_
        refine z_il4 g dX4_ordersFrom_100 ?_
        refine z_iast (k := 0) g rfl (by decide) (by assumption) (by omega) (by omega) dX4_ordersFrom_102 ?_
        try rw [h8]
        refine z_al0 g dX4_ordersFrom_103 ?_
        refine z_il1 g dX4_ordersFrom_104 ?_
        refine z_il2 g dX4_ordersFrom_105 ?_
        refine z_iconst g dX4_ordersFrom_106 zki_1 ?_
        refine z_il4 g dX4_ordersFrom_107 ?_
        refine z_ishl g dX4_ordersFrom_109 ?_
        refine z_iconst g dX4_ordersFrom_110 zki_m1 ?_
        refine z_ixor g dX4_ordersFrom_111 ?_
        refine z_iand g dX4_ordersFrom_112 ?_
        refine z_top b1 ?_
        refine z_il3 g dX4_ordersFrom_113 ?_
        refine z_iconst g dX4_ordersFrom_114 zki_1 ?_
        first | with_reducible refine z_iaddN g dX4_ordersFrom_115 ?_ | refine z_iadd g dX4_ordersFrom_115 ?_
        refine z_callV3 g ck_X4_ordersFrom q1579 q1581 qs68 cls4 (by assumption) hrec rfl (Nat.le_of_ble_eq_true rfl) (by omega) (by omega) (by omega) dX4_ordersFrom_116 (z_ex fun J2 g2 => z_ans0 ?_)
        first | with_reducible refine z_inc4 g dX4_ordersFrom_119 (zinc1 _) rfl ?_ | refine z_inc4 g dX4_ordersFrom_119 rfl rfl ?_
        refine z_goto (tgt := 73) g dX4_ordersFrom_122 (by decide) ?_
        have h := ih2 (q + 1) J2 (by omega) ((gJ.put (show T8 t (t + 8) from by unfold T8; omega)).trans g2.1) g2.2.1 g2.2.2
        simp only [zp_zp, zp_s]
        exact h
      · have hb0 : m / 2 ^ q % 2 = 0 := by omega
        have hnx : (ordStep (ordF (I (t + 1)) p np f) m k (q + 1) (I (t + 8), L t 18, I (t + 9))) = (ordStep (ordF (I (t + 1)) p np f) m k q (I (t + 8), L t 18, I (t + 9))) := if_neg hbit
        refine z_il4 g dX4_ordersFrom_73 ?_
        refine z_al0 g dX4_ordersFrom_75 ?_
        refine zg4_1 g q1243 (Or.inl rfl) (by assumption) dX4_ordersFrom_76 (by assumption) ?_
        refine z_bipush g dX4_ordersFrom_79 zkb_6 ?_
        refine z_iald (k := 0) g rfl (by assumption) (by omega) (by omega) dX4_ordersFrom_81 ?_
        refine z_top (show _ = nI np from by rw [e1]; exact hN) ?_
        refine z_icmp_ge_f (tgt := 125) g dX4_ordersFrom_82 (by decide) (nI_ge (by omega) (by omega)) ?_
        refine z_il2 g dX4_ordersFrom_85 ?_
        refine z_il4 g dX4_ordersFrom_86 ?_
        refine z_ishr g dX4_ordersFrom_88 ?_
        refine z_iconst g dX4_ordersFrom_89 zki_1 ?_
        refine z_iand g dX4_ordersFrom_90 ?_
        refine z_top ((bit_shr m hm q hq5).trans (by rw [hb0])) ?_
        refine z_iconst g dX4_ordersFrom_91 zki_1 ?_
        refine z_icmp_ne_t (tgt := 119) g dX4_ordersFrom_92 (by decide) (by decide +kernel) ?_
        first | with_reducible refine z_inc4 g dX4_ordersFrom_119 (zinc1 _) rfl ?_ | refine z_inc4 g dX4_ordersFrom_119 rfl rfl ?_
        refine z_goto (tgt := 73) g dX4_ordersFrom_122 (by decide) ?_
        have h := ih2 (q + 1) J (by omega) gJ (by rw [hnx]; exact h8) (by rw [hnx]; exact h9)
        rw [hnx] at h
        exact h
  refine z_il2 g dX4_ordersFrom_0 ?_
  refine z_if_ne_t (tgt := 70) g dX4_ordersFrom_1 (by decide) (h0i) ?_
  refine z_iconst g dX4_ordersFrom_70 zki_0 ?_
  refine z_is4 g dX4_ordersFrom_71 rfl ?_
  have h := loop np 0 I (Nat.zero_add _) zag.rf rfl rfl
  rw [show zp L t (zp (L t) 18 (ordStep (ordF (I (t + 1)) p np f) m k 0 (I (t + 8), L t 18, I (t + 9))).2.1) = L from by show zp L t (zp (L t) 18 (L t 18)) = L; rw [zp_self, zp_self]] at h
  exact h
