/-! ===== the twin: games tried and taken back ===== -/
set_option maxRecDepth 100000
theorem cs_X4_oddsOf {E : ZE} {n : Nat} {T : ZT} {I : ZI} {L : ZL} {R : ZR} {t : Nat} (hL : TL T R t) (hO : oddOK (I (t + 1))) {p q : Nat} (hp : p < 5) (hq : q < 5) : zM E yX4_oddsOf cX4_oddsOf 4 (some (Jvm.ClassFile.FieldType.int)) 2 0 0 [.ref t, .int (nI p), .int (nI q)] n T I L R (zsc t (some (.int (oddsF (I (t + 1)) p q))) n T I L R) := (c_X4_oddsOf hL hO hp hq).mono zsc.of
set_option maxHeartbeats 4000000 in
theorem c_X4_tens {E : ZE} {n : Nat} {T : ZT} {I : ZI} {L : ZL} {R : ZR} {e : Nat} (he : e < 1000) : zM E yX4_tens cX4_tens 4 (some (Jvm.ClassFile.FieldType.long)) 0 0 0 [.int (nI e)] n T I L R (zis (some (.long (pow10 e))) n T I L R) := by
  refine zM.of (lv0 := [some (.int (nI e)), none, none, none]) pn_X4 (Nat.le_of_ble_eq_true rfl) rfl fun G g r hin hlt hbn => ?_
  have g : zGd E G cX4_tens RX4 4 0 0 0 := g
  have loop : ∀ m k : Nat, k + m = e → Z E G 0 0 n T I L R 4 [some (.int (nI e)), some (.long (pow10 k)), none, some (.int (nI k))] [] := by
    intro m
    induction m with
    | zero =>
      intro k hk
      obtain rfl : k = e := hk
      refine z_il3 g dX4_tens_4 ?_
      refine z_il0 g dX4_tens_5 ?_
      refine z_icmp_ge_t (tgt := 21) g dX4_tens_6 (by decide) (Int32.le_refl _) ?_
      refine z_ll1 g dX4_tens_21 ?_
      refine z_lret g r (by omega) (by omega) dX4_tens_22 ?_
      exact ⟨rfl, rfl, rfl, rfl, rfl, rfl⟩
    | succ m ih =>
      intro k hk
      refine z_il3 g dX4_tens_4 ?_
      refine z_il0 g dX4_tens_5 ?_
      refine z_icmp_ge_f (tgt := 21) g dX4_tens_6 (by decide) (nI_ge (by omega) (by omega)) ?_
      refine z_ll1 g dX4_tens_9 ?_
      refine z_ldc2 g q1519 dX4_tens_10 ?_
      refine z_lmul g dX4_tens_13 ?_
      refine z_ls1 g dX4_tens_14 rfl ?_
      first | with_reducible refine z_inc3 g dX4_tens_15 (zinc1 _) rfl ?_ | refine z_inc3 g dX4_tens_15 rfl rfl ?_
      refine z_goto (tgt := 4) g dX4_tens_18 (by decide) ?_
      exact ih (k + 1) (by omega)
  refine z_lconst (v := 1) g dX4_tens_0 rfl ?_
  refine z_ls1 g dX4_tens_1 rfl ?_
  refine z_iconst g dX4_tens_2 zki_0 ?_
  refine z_is3 g dX4_tens_3 rfl ?_
  exact loop e 0 (Nat.zero_add e)

set_option maxHeartbeats 4000000 in
theorem c_X4_lowest {E : ZE} {n : Nat} {T : ZT} {I : ZI} {L : ZL} {R : ZR} {up low : Int64} {part : Int32} (hlow : ¬ low = 0) : zM E yX4_lowest cX4_lowest 11 (some (Jvm.ClassFile.FieldType.long)) 0 0 0 [.long up, .long low, .int part] n T I L R (zis (some (.long (lowF up low part))) n T I L R) := by
  refine zM.of (lv0 := [some (.long up), none, some (.long low), none, some (.int part), none, none, none, none, none, none]) pn_X4 (Nat.le_of_ble_eq_true rfl) rfl fun G g r hin hlt hbn => ?_
  have g : zGd E G cX4_lowest RX4 11 0 0 0 := g
  have loop : ∀ (f : Nat) (x y : Int64), y.toInt.natAbs < f → (¬ y = 0 ∨ ¬ x = 0) → gcdL f x y = (gcdL (low.toInt.natAbs + 1) (absL up) low) → Z E G 0 0 n T I L R 17 [some (.long up), none, some (.long low), none, some (.int part), some (.long x), none, some (.long y), none, none, none] [] := by
    intro f
    induction f with
    | zero => intro x y h; exact absurd h (Nat.not_lt_zero _)
    | succ f ih =>
      intro x y hy hne hg
      by_cases h0 : y = 0
      · subst h0
        have hx : ¬ x = 0 := hne.resolve_left (fun q => q rfl)
        have hg : x = (gcdL (low.toInt.natAbs + 1) (absL up) low) := by rw [← hg, gcdL_0]
        refine z_ll7 g dX4_lowest_17 ?_
        refine z_lconst (v := 0) g dX4_lowest_19 rfl ?_
        refine z_lcmp g dX4_lowest_20 ?_
        refine z_if_eq_t (tgt := 42) g dX4_lowest_21 (by decide) ((lg_cmp_eq _ _).mpr rfl) ?_
        refine z_il4 g dX4_lowest_42 ?_
        refine z_if_ne (tgt := 51) g dX4_lowest_44 (by decide) (fun c44 => ?_) (fun c44 => ?_)
        · skip
          refine z_ll2 g dX4_lowest_51 ?_
          refine z_ll5 g dX4_lowest_52 ?_
          refine z_ldiv g dX4_lowest_54 hx ?_
          refine z_lret g r (by omega) (by omega) dX4_lowest_55 ?_
          exact ⟨by unfold lowF; rw [← hg]; simp [*], rfl, rfl, rfl, rfl, rfl⟩
        · skip
          refine z_ll0 g dX4_lowest_47 ?_
          refine z_goto (tgt := 52) g dX4_lowest_48 (by decide) ?_
          refine z_ll5 g dX4_lowest_52 ?_
          refine z_ldiv g dX4_lowest_54 hx ?_
          refine z_lret g r (by omega) (by omega) dX4_lowest_55 ?_
          exact ⟨by unfold lowF; rw [← hg]; simp [*], rfl, rfl, rfl, rfl, rfl⟩
      · skip
        refine z_ll7 g dX4_lowest_17 ?_
        refine z_lconst (v := 0) g dX4_lowest_19 rfl ?_
        refine z_lcmp g dX4_lowest_20 ?_
        refine z_if_eq_f (tgt := 42) g dX4_lowest_21 (by decide) (fun q => h0 ((lg_cmp_eq _ _).mp q)) ?_
        refine z_ll5 g dX4_lowest_24 ?_
        refine z_ll7 g dX4_lowest_26 ?_
        refine z_lrem g dX4_lowest_28 h0 ?_
        refine z_ls9 g dX4_lowest_29 rfl ?_
        refine z_ll7 g dX4_lowest_31 ?_
        refine z_ls5 g dX4_lowest_33 rfl ?_
        refine z_ll9 g dX4_lowest_35 ?_
        refine z_ls7 g dX4_lowest_37 rfl ?_
        refine z_goto (tgt := 17) g dX4_lowest_39 (by decide) ?_
        exact z_sub (by simp [zsub]) (ih y (x - x / y * y) (Nat.lt_of_lt_of_le (rem_less x y h0) (Nat.le_of_lt_succ hy)) (Or.inr h0) (by rw [← hg, gcdL_s h0]))
  refine z_ll0 g dX4_lowest_0 ?_
  refine z_lconst (v := 0) g dX4_lowest_1 rfl ?_
  refine z_lcmp g dX4_lowest_2 ?_
  refine z_if_ge (tgt := 11) g dX4_lowest_3 (by decide) (fun c3 => ?_) (fun c3 => ?_)
  · skip
    rw [lg_cmp_ge] at c3
    have c3 := Int64.not_lt.mpr c3
    refine z_ll0 g dX4_lowest_11 ?_
    refine z_ls5 g dX4_lowest_12 rfl ?_
    refine z_ll2 g dX4_lowest_14 ?_
    refine z_ls7 g dX4_lowest_15 rfl ?_
    first
      | (have ha : absL up = up := by (unfold absL; rw [if_neg c3])
         have h := loop (low.toInt.natAbs + 1) (absL up) low (Nat.lt_succ_self _) (Or.inl hlow) rfl
         rw [ha] at h
         exact h)
      | (have ha : absL up = -up := by (unfold absL; rw [if_pos c3])
         have h := loop (low.toInt.natAbs + 1) (absL up) low (Nat.lt_succ_self _) (Or.inl hlow) rfl
         rw [ha] at h
         exact h)
  · skip
    rw [lg_cmp_ge] at c3
    have c3 := Int64.not_le.mp c3
    refine z_ll0 g dX4_lowest_6 ?_
    refine z_lneg g dX4_lowest_7 ?_
    refine z_goto (tgt := 12) g dX4_lowest_8 (by decide) ?_
    refine z_ls5 g dX4_lowest_12 rfl ?_
    refine z_ll2 g dX4_lowest_14 ?_
    refine z_ls7 g dX4_lowest_15 rfl ?_
    first
      | (have ha : absL up = up := by (unfold absL; rw [if_neg c3])
         have h := loop (low.toInt.natAbs + 1) (absL up) low (Nat.lt_succ_self _) (Or.inl hlow) rfl
         rw [ha] at h
         exact h)
      | (have ha : absL up = -up := by (unfold absL; rw [if_pos c3])
         have h := loop (low.toInt.natAbs + 1) (absL up) low (Nat.lt_succ_self _) (Or.inl hlow) rfl
         rw [ha] at h
         exact h)

set_option maxHeartbeats 8000000 in
theorem c_X4_firsts {E : ZE} {n : Nat} {T : ZT} {L : ZL} {R : ZR} {t p q : Nat} (hL : TL T R t) (hp : p < 5) (hq : q < 5) (hpq : p ≠ q) (kn : Nat) (hkn : kn ≤ 5) : ∀ (f : Nat) (I : ZI) (a b wn ln : Nat), a + wn = kn → b + ln = kn → a + b = f + 1 → oddOK (I (t + 1)) → gok (f + 1) (I (t + 1)) → zM E yX4_firsts cX4_firsts 12 (some (Jvm.ClassFile.FieldType.long)) (3 + f) 0 0 [.ref t, .int (nI p), .int (nI q), .int (nI wn), .int (nI ln), .int (nI kn)] n T I L R (zsc t (some (.long (firstF p q (f + 1) (a) (b) (I (t + 1))))) n T I L R) := by
  intro f
  induction f using Nat.strongRecOn with
  | ind f ih =>
  intro I a b wn ln ha hb hab hO hg
  by_cases h0 : a = 0
  · subst h0
    have hf : 2 * kn - 1 - wn - ln = f := by omega
    have hwk : nI wn = nI kn := by rw [show wn = kn by omega]
    refine zM.of (lv0 := [some (.ref t), some (.int (nI p)), some (.int (nI q)), some (.int (nI wn)), some (.int (nI ln)), some (.int (nI kn)), none, none, none, none, none, none]) pn_X4 (Nat.le_of_ble_eq_true rfl) rfl fun G g r hin hlt hbn => ?_
    have g : zGd E G cX4_firsts RX4 12 (3 + f) 0 0 := g
    have hL0 := hL
    obtain ⟨hT, h1, ht1, h2, ht2, h3, ht3, h10, ht4, h11, ht5, ht6, ht7, h16, ht8, h17, ht9, h19, ht10⟩ := hL0
    refine z_iconst g dX4_firsts_0 zki_2 ?_
    refine z_il5 g dX4_firsts_1 ?_
    first | with_reducible refine z_imulN g dX4_firsts_3 ?_ | refine z_imul g dX4_firsts_3 ?_
    refine z_iconst g dX4_firsts_4 zki_1 ?_
    first | with_reducible refine z_isubN g dX4_firsts_5 (by omega) ?_ | refine z_isub g dX4_firsts_5 ?_
    refine z_il3 g dX4_firsts_6 ?_
    first | with_reducible refine z_isubN g dX4_firsts_7 (by omega) ?_ | refine z_isub g dX4_firsts_7 ?_
    refine z_il4 g dX4_firsts_8 ?_
    first | with_reducible refine z_isubN g dX4_firsts_10 (by omega) ?_ | refine z_isub g dX4_firsts_10 ?_
    refine z_top (show _ = nI f by rw [hf]) ?_
    refine z_is6 g dX4_firsts_11 rfl ?_
    refine z_il3 g dX4_firsts_13 ?_
    refine z_il5 g dX4_firsts_14 ?_
    refine z_icmp_eq_t (tgt := 26) g dX4_firsts_16 (by decide) (hwk) ?_
    refine z_il3 g dX4_firsts_26 ?_
    refine z_il5 g dX4_firsts_27 ?_
    refine z_icmp_ne_f (tgt := 40) g dX4_firsts_29 (by decide) (hwk) ?_
    refine z_il6 g dX4_firsts_32 ?_
    refine z_callS1 g ck_X4_tens q1524 q1525 (c_X4_tens (by omega)) rfl (Nat.le_of_ble_eq_true rfl) (by omega) (by omega) (by omega) dX4_firsts_34 (z_ans1 ?_)
    refine z_goto (tgt := 41) g dX4_firsts_37 (by decide) ?_
    refine z_lret g r (by omega) (by omega) dX4_firsts_41 ?_
    exact ⟨I, zag.rf, by rw [firstF_a], rfl, rfl, rfl, rfl, rfl⟩
  by_cases hb1 : b = 0
  · subst hb1
    have hw : ¬ nI wn = nI kn := fun e => h0 (by have := (nI_eq (by omega) (by omega)).mp e; omega)
    have hlk : nI ln = nI kn := by rw [show ln = kn by omega]
    refine zM.of (lv0 := [some (.ref t), some (.int (nI p)), some (.int (nI q)), some (.int (nI wn)), some (.int (nI ln)), some (.int (nI kn)), none, none, none, none, none, none]) pn_X4 (Nat.le_of_ble_eq_true rfl) rfl fun G g r hin hlt hbn => ?_
    have g : zGd E G cX4_firsts RX4 12 (3 + f) 0 0 := g
    have hL0 := hL
    obtain ⟨hT, h1, ht1, h2, ht2, h3, ht3, h10, ht4, h11, ht5, ht6, ht7, h16, ht8, h17, ht9, h19, ht10⟩ := hL0
    refine z_iconst g dX4_firsts_0 zki_2 ?_
    refine z_il5 g dX4_firsts_1 ?_
    first | with_reducible refine z_imulN g dX4_firsts_3 ?_ | refine z_imul g dX4_firsts_3 ?_
    refine z_iconst g dX4_firsts_4 zki_1 ?_
    first | with_reducible refine z_isubN g dX4_firsts_5 (by omega) ?_ | refine z_isub g dX4_firsts_5 ?_
    refine z_il3 g dX4_firsts_6 ?_
    first | with_reducible refine z_isubN g dX4_firsts_7 (by omega) ?_ | refine z_isub g dX4_firsts_7 ?_
    refine z_il4 g dX4_firsts_8 ?_
    first | with_reducible refine z_isubN g dX4_firsts_10 (by omega) ?_ | refine z_isub g dX4_firsts_10 ?_
    refine z_is6 g dX4_firsts_11 rfl ?_
    refine z_il3 g dX4_firsts_13 ?_
    refine z_il5 g dX4_firsts_14 ?_
    refine z_icmp_eq_f (tgt := 26) g dX4_firsts_16 (by decide) (hw) ?_
    refine z_il4 g dX4_firsts_19 ?_
    refine z_il5 g dX4_firsts_21 ?_
    refine z_icmp_ne_f (tgt := 42) g dX4_firsts_23 (by decide) (hlk) ?_
    refine z_il3 g dX4_firsts_26 ?_
    refine z_il5 g dX4_firsts_27 ?_
    refine z_icmp_ne_t (tgt := 40) g dX4_firsts_29 (by decide) (hw) ?_
    refine z_lconst (v := 0) g dX4_firsts_40 rfl ?_
    refine z_lret g r (by omega) (by omega) dX4_firsts_41 ?_
    exact ⟨I, zag.rf, by rw [firstF_b _ _ _ _ _ h0], rfl, rfl, rfl, rfl, rfl⟩
  obtain ⟨f, rfl⟩ : ∃ g, f = g + 1 := ⟨f - 1, by omega⟩
  have hw : ¬ nI wn = nI kn := fun e => h0 (by have := (nI_eq (by omega) (by omega)).mp e; omega)
  have hl : ¬ nI ln = nI kn := fun e => hb1 (by have := (nI_eq (by omega) (by omega)).mp e; omega)
  have hg1 : gok 1 (I (t + 1)) := gok_le hg (by omega)
  have ho1 := plays_odd hp hq hpq hO hg1
  have ho2 := plays_odd hq hp (Ne.symm hpq) hO hg1
  have hg2 : gok (f + 1) (playsF (I (t + 1)) p q) := plays_gok hp hq hpq hg
  have hg3 : gok (f + 1) (playsF (I (t + 1)) q p) := plays_gok hq hp (Ne.symm hpq) hg
  refine zM.of (lv0 := [some (.ref t), some (.int (nI p)), some (.int (nI q)), some (.int (nI wn)), some (.int (nI ln)), some (.int (nI kn)), none, none, none, none, none, none]) pn_X4 (Nat.le_of_ble_eq_true rfl) rfl fun G g r hin hlt hbn => ?_
  have g : zGd E G cX4_firsts RX4 12 (3 + (f + 1)) 0 0 := g
  have hL0 := hL
  obtain ⟨hT, h1, ht1, h2, ht2, h3, ht3, h10, ht4, h11, ht5, ht6, ht7, h16, ht8, h17, ht9, h19, ht10⟩ := hL0
  refine z_iconst g dX4_firsts_0 zki_2 ?_
  refine z_il5 g dX4_firsts_1 ?_
  first | with_reducible refine z_imulN g dX4_firsts_3 ?_ | refine z_imul g dX4_firsts_3 ?_
  refine z_iconst g dX4_firsts_4 zki_1 ?_
  first | with_reducible refine z_isubN g dX4_firsts_5 (by omega) ?_ | refine z_isub g dX4_firsts_5 ?_
  refine z_il3 g dX4_firsts_6 ?_
  first | with_reducible refine z_isubN g dX4_firsts_7 (by omega) ?_ | refine z_isub g dX4_firsts_7 ?_
  refine z_il4 g dX4_firsts_8 ?_
  first | with_reducible refine z_isubN g dX4_firsts_10 (by omega) ?_ | refine z_isub g dX4_firsts_10 ?_
  refine z_is6 g dX4_firsts_11 rfl ?_
  refine z_il3 g dX4_firsts_13 ?_
  refine z_il5 g dX4_firsts_14 ?_
  refine z_icmp_eq_f (tgt := 26) g dX4_firsts_16 (by decide) (hw) ?_
  refine z_il4 g dX4_firsts_19 ?_
  refine z_il5 g dX4_firsts_21 ?_
  refine z_icmp_ne_t (tgt := 42) g dX4_firsts_23 (by decide) (hl) ?_
  refine z_al0 g dX4_firsts_42 ?_
  refine z_il1 g dX4_firsts_43 ?_
  refine z_il2 g dX4_firsts_44 ?_
  refine z_callV2 g ck_X4_oddsOf q1474 q1476 qs54 cls4 (by assumption) (cs_X4_oddsOf hL hO hp hq) rfl (Nat.le_of_ble_eq_true rfl) (by omega) (by omega) (by omega) dX4_firsts_45 (z_ex fun I1 g1 => z_ans1 ?_)
  have e1 : I1 (t + 1) = I (t + 1) := g1.row
  refine z_is7 g dX4_firsts_48 rfl ?_
  refine z_al0 g dX4_firsts_50 ?_
  refine zg4_1 g q1243 (Or.inl rfl) (by assumption) dX4_firsts_51 (by assumption) ?_
  refine z_iconst g dX4_firsts_54 zki_1 ?_
  refine z_il1 g dX4_firsts_55 ?_
  first | with_reducible refine z_iaddN g dX4_firsts_56 ?_ | refine z_iadd g dX4_firsts_56 ?_
  refine z_iald (k := 0) g rfl (by assumption) (by omega) (by omega) dX4_firsts_57 ?_
  refine z_is8 g dX4_firsts_58 rfl ?_
  refine z_al0 g dX4_firsts_60 ?_
  refine zg4_1 g q1243 (Or.inl rfl) (by assumption) dX4_firsts_61 (by assumption) ?_
  refine z_iconst g dX4_firsts_64 zki_1 ?_
  refine z_il2 g dX4_firsts_65 ?_
  first | with_reducible refine z_iaddN g dX4_firsts_66 ?_ | refine z_iadd g dX4_firsts_66 ?_
  refine z_iald (k := 0) g rfl (by assumption) (by omega) (by omega) dX4_firsts_67 ?_
  refine z_is9 g dX4_firsts_68 rfl ?_
  rw [e1]
  refine z_al0 g dX4_firsts_70 ?_
  refine z_il1 g dX4_firsts_71 ?_
  refine z_il2 g dX4_firsts_72 ?_
  refine z_callV2 g ck_X4_plays q1482 q1484 qs55 cls4 (by assumption) (c_X4_plays hL (by rw [e1]; exact hO.1) hp hq) rfl (Nat.le_of_ble_eq_true rfl) (by omega) (by omega) (by omega) dX4_firsts_73 (z_ans0 ?_)
  rw [e1]
  refine z_il7 g dX4_firsts_76 ?_
  refine z_i2l g dX4_firsts_78 ?_
  refine z_al0 g dX4_firsts_79 ?_
  refine z_il1 g dX4_firsts_80 ?_
  refine z_il2 g dX4_firsts_81 ?_
  refine z_il3 g dX4_firsts_82 ?_
  refine z_iconst g dX4_firsts_83 zki_1 ?_
  first | with_reducible refine z_iaddN g dX4_firsts_84 ?_ | refine z_iadd g dX4_firsts_84 ?_
  refine z_il4 g dX4_firsts_85 ?_
  refine z_il5 g dX4_firsts_87 ?_
  refine z_callV5 g ck_X4_firsts q1538 q1540 qs64 cls4 (by assumption) (ih f (by omega) (zp I1 (t + 1) (playsF (I (t + 1)) p q)) (a - 1) b (wn + 1) ln (by omega) hb (by omega) (by rw [zp_s]; exact ho1) (by rw [zp_s]; exact hg2)) rfl (Nat.le_of_ble_eq_true rfl) (by omega) (by omega) (by omega) dX4_firsts_89 (z_ex fun I2 g2 => z_ans1 ?_)
  have e2 : I2 (t + 1) = playsF (I (t + 1)) p q := g2.row.trans zp_s
  rw [zp_s]
  refine z_lmul g dX4_firsts_92 ?_
  refine z_ls10 g dX4_firsts_93 rfl ?_
  refine z_al0 g dX4_firsts_95 ?_
  refine zg4_1 g q1243 (Or.inl rfl) (by assumption) dX4_firsts_96 (by assumption) ?_
  refine z_iconst g dX4_firsts_99 zki_1 ?_
  refine z_il1 g dX4_firsts_100 ?_
  first | with_reducible refine z_iaddN g dX4_firsts_101 ?_ | refine z_iadd g dX4_firsts_101 ?_
  refine z_al0 g dX4_firsts_102 ?_
  refine z_il8 g dX4_firsts_103 ?_
  refine z_callV1 g ck_X4_moreOf q1490 q1492 qs57 cls4 (by assumption) (c_X4_moreOf hL (by rw [e2, plays_ag hp hq 11 (by decide)]; exact hO.1)) rfl (Nat.le_of_ble_eq_true rfl) (by omega) (by omega) (by omega) dX4_firsts_105 (z_ans1 ?_)
  refine z_iast (k := 0) g rfl (by decide) (by assumption) (by omega) (by omega) dX4_firsts_108 ?_
  refine z_al0 g dX4_firsts_109 ?_
  refine zg4_1 g q1243 (Or.inl rfl) (by assumption) dX4_firsts_110 (by assumption) ?_
  refine z_iconst g dX4_firsts_113 zki_1 ?_
  refine z_il2 g dX4_firsts_114 ?_
  first | with_reducible refine z_iaddN g dX4_firsts_115 ?_ | refine z_iadd g dX4_firsts_115 ?_
  refine z_al0 g dX4_firsts_116 ?_
  refine z_il9 g dX4_firsts_117 ?_
  refine z_callV1 g ck_X4_fewer q1486 q1488 qs56 cls4 (by assumption) (c_X4_fewer hL (by rw [zp_s, zp_n (by omega), e2, plays_ag hp hq 11 (by decide)]; exact hO.1)) rfl (Nat.le_of_ble_eq_true rfl) (by omega) (by omega) (by omega) dX4_firsts_119 (z_ans1 ?_)
  refine z_iast (k := 0) g rfl (by decide) (by assumption) (by omega) (by omega) dX4_firsts_122 ?_
  refine z_mem rfl rfl (show _ = zp I2 (t + 1) (playsF (I (t + 1)) q p) from by rw [zp_s, zp_zp, e2, plays_swap hp hq hpq]) rfl rfl ?_
  refine z_ll10 g dX4_firsts_123 ?_
  refine z_bipush g dX4_firsts_125 zkb_10 ?_
  refine z_il7 g dX4_firsts_127 ?_
  first | with_reducible refine z_isubN g dX4_firsts_129 (by omega) ?_ | refine z_isub g dX4_firsts_129 ?_
  refine z_i2l g dX4_firsts_130 ?_
  refine z_al0 g dX4_firsts_131 ?_
  refine z_il1 g dX4_firsts_132 ?_
  refine z_il2 g dX4_firsts_133 ?_
  refine z_il3 g dX4_firsts_134 ?_
  refine z_il4 g dX4_firsts_135 ?_
  refine z_iconst g dX4_firsts_137 zki_1 ?_
  first | with_reducible refine z_iaddN g dX4_firsts_138 ?_ | refine z_iadd g dX4_firsts_138 ?_
  refine z_il5 g dX4_firsts_139 ?_
  refine z_callV5 g ck_X4_firsts q1538 q1540 qs64 cls4 (by assumption) (ih f (by omega) (zp I2 (t + 1) (playsF (I (t + 1)) q p)) a (b - 1) wn (ln + 1) ha (by omega) (by omega) (by rw [zp_s]; exact ho2) (by rw [zp_s]; exact hg3)) rfl (Nat.le_of_ble_eq_true rfl) (by omega) (by omega) (by omega) dX4_firsts_141 (z_ex fun I3 g3 => z_ans1 ?_)
  have e3 : I3 (t + 1) = playsF (I (t + 1)) q p := g3.row.trans zp_s
  rw [zp_s]
  refine z_lmul g dX4_firsts_144 ?_
  refine z_ladd g dX4_firsts_145 ?_
  refine z_ls10 g dX4_firsts_146 rfl ?_
  refine z_al0 g dX4_firsts_148 ?_
  refine zg4_1 g q1243 (Or.inl rfl) (by assumption) dX4_firsts_149 (by assumption) ?_
  refine z_iconst g dX4_firsts_152 zki_1 ?_
  refine z_il1 g dX4_firsts_153 ?_
  first | with_reducible refine z_iaddN g dX4_firsts_154 ?_ | refine z_iadd g dX4_firsts_154 ?_
  refine z_il8 g dX4_firsts_155 ?_
  refine z_iast (k := 0) g rfl (by decide) (by assumption) (by omega) (by omega) dX4_firsts_157 ?_
  refine z_al0 g dX4_firsts_158 ?_
  refine zg4_1 g q1243 (Or.inl rfl) (by assumption) dX4_firsts_159 (by assumption) ?_
  refine z_iconst g dX4_firsts_162 zki_1 ?_
  refine z_il2 g dX4_firsts_163 ?_
  first | with_reducible refine z_iaddN g dX4_firsts_164 ?_ | refine z_iadd g dX4_firsts_164 ?_
  refine z_il9 g dX4_firsts_165 ?_
  refine z_iast (k := 0) g rfl (by decide) (by assumption) (by omega) (by omega) dX4_firsts_167 ?_
  refine z_al0 g dX4_firsts_168 ?_
  refine zg4_1 g q1243 (Or.inl rfl) (by assumption) dX4_firsts_169 (by assumption) ?_
  refine z_iconst g dX4_firsts_172 zki_0 ?_
  refine z_dup2 g dX4_firsts_173 rfl rfl ?_
  refine z_iald (k := 0) g rfl (by assumption) (by omega) (by omega) dX4_firsts_174 ?_
  refine z_iconst g dX4_firsts_175 zki_1 ?_
  first | with_reducible refine z_isubN g dX4_firsts_176 (by omega) ?_ | refine z_isub g dX4_firsts_176 ?_
  refine z_iast (k := 0) g rfl (by decide) (by assumption) (by omega) (by omega) dX4_firsts_177 ?_
  refine z_mem rfl rfl (show _ = zp I3 (t + 1) (I (t + 1)) from by simp only [zp_zp, zp_s, e3]; rw [plays_back hp hq hpq]) rfl rfl ?_
  refine z_ll10 g dX4_firsts_178 ?_
  refine z_lret g r (by omega) (by omega) dX4_firsts_180 ?_
  refine ⟨zp I3 (t + 1) (I (t + 1)), zag.dn2 ?_ zp_s, by rw [firstF_s p q (f + 1) a b (I (t + 1)) h0 hb1], rfl, rfl, rfl, rfl, rfl⟩
  exact ((((g1.up3).put (Or.inl rfl)).trans g2.up3 |>.put (Or.inl rfl)).trans g3.up3).put (Or.inl rfl)
set_option maxHeartbeats 4000000 in
theorem c_X4_series {E : ZE} {n : Nat} {T : ZT} {I : ZI} {L : ZL} {R : ZR} {t : Nat} (hL : TL T R t) {np : Nat} (hN : I (t + 1) 6 = nI np) (hnp : np ≤ 5) (hO : oddOK (I (t + 1))) (hg : gok 16 (I (t + 1))) {p q k part : Int32} : zM E yX4_series cX4_series 5 (some (Jvm.ClassFile.FieldType.long)) 13 0 0 [.ref t, .int p, .int q, .int k, .int part] n T I L R (zsc t (some (.long (seriesF (I (t + 1)) p q k part))) n T I L R) := by
  refine zM.of (lv0 := [some (.ref t), some (.int p), some (.int q), some (.int k), some (.int part)]) pn_X4 (Nat.le_of_ble_eq_true rfl) rfl fun G g r hin hlt hbn => ?_
  have g : zGd E G cX4_series RX4 5 13 0 0 := g
  have hL0 := hL
  obtain ⟨hT, h1, ht1, h2, ht2, h3, ht3, h10, ht4, h11, ht5, ht6, ht7, h16, ht8, h17, ht9, h19, ht10⟩ := hL0
  refine z_al0 g dX4_series_0 ?_
  refine z_il1 g dX4_series_1 ?_
  refine z_il2 g dX4_series_2 ?_
  refine z_callV2 g ck_X4_areTwo q1498 q1500 qs58 cls4 (by assumption) (c_X4_areTwo hL) rfl (Nat.le_of_ble_eq_true rfl) (by omega) (by omega) (by omega) dX4_series_3 (z_ans1 ?_)
  refine z_ifb_eq (tgt := 28) g dX4_series_6 (by decide) (fun c6 => ?_) (fun c6 => ?_)
  · skip
    refine z_ldc2 g q1502 dX4_series_28 ?_
    refine z_lret g r (by omega) (by omega) dX4_series_31 ?_
    exact ⟨I, zag.rf, by simp [seriesF, *], rfl, rfl, rfl, rfl, rfl⟩
  · skip
    obtain ⟨pn, qn, hpn, hqn, hpq, rfl, rfl⟩ := two_of c6 hN hnp
    have pnc : (nI pn).toNatClampNeg = pn := cl_nI (by omega)
    have qnc : (nI qn).toNatClampNeg = qn := cl_nI (by omega)
    refine z_il3 g dX4_series_9 ?_
    refine z_iconst g dX4_series_10 zki_1 ?_
    refine z_iconst g dX4_series_11 zki_5 ?_
    refine z_callS3 g ck_X4_in q1319 q1320 c_X4_in rfl (Nat.le_of_ble_eq_true rfl) (by omega) (by omega) (by omega) dX4_series_12 (z_ans1 ?_)
    refine z_ifb_eq (tgt := 28) g dX4_series_15 (by decide) (fun c15 => ?_) (fun c15 => ?_)
    · skip
      refine z_ldc2 g q1502 dX4_series_28 ?_
      refine z_lret g r (by omega) (by omega) dX4_series_31 ?_
      exact ⟨I, zag.rf, by simp [seriesF, *], rfl, rfl, rfl, rfl, rfl⟩
    · skip
      obtain ⟨kn, kn_ge, kn_le, rfl⟩ := inB_of c15 (by decide) (by decide)
      have knc : (nI kn).toNatClampNeg = kn := cl_nI (by omega)
      have hk2 : 2 * kn - 1 + 1 = 2 * kn := by omega
      refine z_il4 g dX4_series_18 ?_
      refine z_iconst g dX4_series_20 zki_0 ?_
      refine z_iconst g dX4_series_21 zki_1 ?_
      refine z_callS3 g ck_X4_in q1319 q1320 c_X4_in rfl (Nat.le_of_ble_eq_true rfl) (by omega) (by omega) (by omega) dX4_series_22 (z_ans1 ?_)
      refine z_ifb_ne (tgt := 32) g dX4_series_25 (by decide) (fun c25 => ?_) (fun c25 => ?_)
      · skip
        refine z_al0 g dX4_series_32 ?_
        refine z_il1 g dX4_series_33 ?_
        refine z_il2 g dX4_series_34 ?_
        refine z_iconst g dX4_series_35 zki_0 ?_
        refine z_iconst g dX4_series_36 zki_0 ?_
        refine z_il3 g dX4_series_37 ?_
        refine z_callV5 g ck_X4_firsts q1538 q1540 qs64 cls4 (by assumption) (c_X4_firsts hL (by omega) (by omega) hpq kn (by omega) (2 * kn - 1) I kn kn 0 0 (by omega) (by omega) (by omega) hO (gok_le hg (by omega))) rfl (Nat.le_of_ble_eq_true rfl) (by omega) (by omega) (by omega) dX4_series_38 (z_ex fun I1 g1 => z_ans1 ?_)
        refine z_iconst g dX4_series_41 zki_2 ?_
        refine z_il3 g dX4_series_42 ?_
        first | with_reducible refine z_imulN g dX4_series_43 ?_ | refine z_imul g dX4_series_43 ?_
        refine z_iconst g dX4_series_44 zki_1 ?_
        first | with_reducible refine z_isubN g dX4_series_45 (by omega) ?_ | refine z_isub g dX4_series_45 ?_
        refine z_callS1 g ck_X4_tens q1524 q1525 (c_X4_tens (by omega)) rfl (Nat.le_of_ble_eq_true rfl) (by omega) (by omega) (by omega) dX4_series_46 (z_ans1 ?_)
        refine z_il4 g dX4_series_49 ?_
        refine z_callS3 g ck_X4_lowest q1527 q1528 (c_X4_lowest (pow10_ne (by omega))) rfl (Nat.le_of_ble_eq_true rfl) (by omega) (by omega) (by omega) dX4_series_51 (z_ans1 ?_)
        refine z_lret g r (by omega) (by omega) dX4_series_54 ?_
        exact ⟨I1, g1, by simp [seriesF, *], rfl, rfl, rfl, rfl, rfl⟩
      · skip
        refine z_ldc2 g q1502 dX4_series_28 ?_
        refine z_lret g r (by omega) (by omega) dX4_series_31 ?_
        exact ⟨I, zag.rf, by simp [seriesF, *], rfl, rfl, rfl, rfl, rfl⟩

/-- an answer, the scratch rows open, the field isLost set -/
def zsl (t : Nat) (v : Option Value) (b : Int32) (n : Nat) (T : ZT) (I : ZI) (L : ZL) (R : ZR) : ZP := zex (fun I' : ZI => zag (T2 t) (zp I t (zp (I t) 15 b)) I') (fun I' => zis v n T I' L R)
theorem zsl_row {t : Nat} {b : Int32} {I J : ZI} (h : zag (T2 t) (zp I t (zp (I t) 15 b)) J) : J (t + 1) = I (t + 1) := by rw [h.row, zp_n (by omega)]
theorem T2.t1 {t : Nat} : ¬ T2 t (t + 1) := fun q => by unfold T2 at q; omega
theorem T2.t0 {t : Nat} : ¬ T2 t t := fun q => by unfold T2 at q; omega
set_option maxHeartbeats 8000000 in
theorem c_X4_bestFor {E : ZE} {n : Nat} {T : ZT} {L : ZL} {R : ZR} {t p q : Nat} (hL : TL T R t) (hp : p < 5) (hq : q < 5) (hpq : p ≠ q) : ∀ (f : Nat) (I : ZI), f < 100 → oddOK (I (t + 1)) → gok (f + 1) (I (t + 1)) → zM E yX4_bestFor cX4_bestFor 13 (some (Jvm.ClassFile.FieldType.long)) (3 + f) 0 0 [.ref t, .int (nI p), .int (nI q), .int (nI (f + 1))] n T I L R (zsl t (some (.long (bestF p q f (I (t + 1))).1)) (zb (bestF p q f (I (t + 1))).2) n T I L R) := by
  intro f
  induction f with
  | zero =>
    intro I hf hO hg
    refine zM.of (lv0 := [some (.ref t), some (.int (nI p)), some (.int (nI q)), some (.int (nI (0 + 1))), none, none, none, none, none, none, none, none, none]) pn_X4 (Nat.le_of_ble_eq_true rfl) rfl fun G g r hin hlt hbn => ?_
    have g : zGd E G cX4_bestFor RX4 13 (3 + 0) 0 0 := g
    have hL0 := hL
    obtain ⟨hT, h1, ht1, h2, ht2, h3, ht3, h10, ht4, h11, ht5, ht6, ht7, h16, ht8, h17, ht9, h19, ht10⟩ := hL0
    refine z_al0 g dX4_bestFor_0 ?_
    refine z_il1 g dX4_bestFor_1 ?_
    refine z_il2 g dX4_bestFor_2 ?_
    refine z_callV2 g ck_X4_oddsOf q1474 q1476 qs54 cls4 (by assumption) (cs_X4_oddsOf hL hO hp hq) rfl (Nat.le_of_ble_eq_true rfl) (by omega) (by omega) (by omega) dX4_bestFor_3 (z_ex fun I1 g1 => z_ans1 ?_)
    refine z_is4 g dX4_bestFor_6 rfl ?_
    refine z_il3 g dX4_bestFor_8 ?_
    refine z_iconst g dX4_bestFor_9 zki_1 ?_
    refine z_icmp_ne_f (tgt := 22) g dX4_bestFor_10 (by decide) (rfl) ?_
    refine z_al0 g dX4_bestFor_13 ?_
    refine z_iconst g dX4_bestFor_14 zki_0 ?_
    refine zs4_15 g q1257 (Or.inl rfl) (by assumption) dX4_bestFor_15 zfit_0 ?_
    refine z_il4 g dX4_bestFor_18 ?_
    refine z_i2l g dX4_bestFor_20 ?_
    refine z_lret g r (by omega) (by omega) dX4_bestFor_21 ?_
    refine ⟨_, ?_, rfl, rfl, rfl, rfl, rfl, rfl⟩
    intro b hb
    by_cases hb0 : b = t
    · rw [hb0, zp_s, zp_s, g1.fld]; rfl
    · rw [zp_n hb0, zp_n hb0]
      exact g1 b hb
  | succ f ih =>
    intro I hf hO hg
    have h1k : ¬ nI (f + 1 + 1) = nI 1 := fun e => by have := (nI_eq (by omega) (by omega)).mp e; omega
    have hg1 : gok 1 (I (t + 1)) := gok_le hg (by omega)
    have ho1 := plays_odd hp hq hpq hO hg1
    have ho2 := plays_odd hq hp (Ne.symm hpq) hO hg1
    have hg2 : gok (f + 1) (playsF (I (t + 1)) p q) := plays_gok hp hq hpq hg
    have hg3 : gok (f + 1) (playsF (I (t + 1)) q p) := plays_gok hq hp (Ne.symm hpq) hg
    refine zM.of (lv0 := [some (.ref t), some (.int (nI p)), some (.int (nI q)), some (.int (nI (f + 1 + 1))), none, none, none, none, none, none, none, none, none]) pn_X4 (Nat.le_of_ble_eq_true rfl) rfl fun G g r hin hlt hbn => ?_
    have g : zGd E G cX4_bestFor RX4 13 (3 + (f + 1)) 0 0 := g
    have hL0 := hL
    obtain ⟨hT, h1, ht1, h2, ht2, h3, ht3, h10, ht4, h11, ht5, ht6, ht7, h16, ht8, h17, ht9, h19, ht10⟩ := hL0
    refine z_al0 g dX4_bestFor_0 ?_
    refine z_il1 g dX4_bestFor_1 ?_
    refine z_il2 g dX4_bestFor_2 ?_
    refine z_callV2 g ck_X4_oddsOf q1474 q1476 qs54 cls4 (by assumption) (cs_X4_oddsOf hL hO hp hq) rfl (Nat.le_of_ble_eq_true rfl) (by omega) (by omega) (by omega) dX4_bestFor_3 (z_ex fun I1 g1 => z_ans1 ?_)
    have e1 : I1 (t + 1) = I (t + 1) := g1.row
    refine z_is4 g dX4_bestFor_6 rfl ?_
    refine z_il3 g dX4_bestFor_8 ?_
    refine z_iconst g dX4_bestFor_9 zki_1 ?_
    refine z_icmp_ne_t (tgt := 22) g dX4_bestFor_10 (by decide) (h1k) ?_
    refine z_al0 g dX4_bestFor_22 ?_
    refine zg4_1 g q1243 (Or.inl rfl) (by assumption) dX4_bestFor_23 (by assumption) ?_
    refine z_iconst g dX4_bestFor_26 zki_1 ?_
    refine z_il1 g dX4_bestFor_27 ?_
    first | with_reducible refine z_iaddN g dX4_bestFor_28 ?_ | refine z_iadd g dX4_bestFor_28 ?_
    refine z_iald (k := 0) g rfl (by assumption) (by omega) (by omega) dX4_bestFor_29 ?_
    refine z_is5 g dX4_bestFor_30 rfl ?_
    refine z_al0 g dX4_bestFor_32 ?_
    refine zg4_1 g q1243 (Or.inl rfl) (by assumption) dX4_bestFor_33 (by assumption) ?_
    refine z_iconst g dX4_bestFor_36 zki_1 ?_
    refine z_il2 g dX4_bestFor_37 ?_
    first | with_reducible refine z_iaddN g dX4_bestFor_38 ?_ | refine z_iadd g dX4_bestFor_38 ?_
    refine z_iald (k := 0) g rfl (by assumption) (by omega) (by omega) dX4_bestFor_39 ?_
    refine z_is6 g dX4_bestFor_40 rfl ?_
    rw [e1]
    refine z_al0 g dX4_bestFor_42 ?_
    refine z_il1 g dX4_bestFor_43 ?_
    refine z_il2 g dX4_bestFor_44 ?_
    refine z_callV2 g ck_X4_plays q1482 q1484 qs55 cls4 (by assumption) (c_X4_plays hL (by rw [e1]; exact hO.1) hp hq) rfl (Nat.le_of_ble_eq_true rfl) (by omega) (by omega) (by omega) dX4_bestFor_45 (z_ans0 ?_)
    rw [e1]
    refine z_al0 g dX4_bestFor_48 ?_
    refine z_il1 g dX4_bestFor_49 ?_
    refine z_il2 g dX4_bestFor_50 ?_
    refine z_il3 g dX4_bestFor_51 ?_
    refine z_iconst g dX4_bestFor_52 zki_1 ?_
    first | with_reducible refine z_isubN g dX4_bestFor_53 (by omega) ?_ | refine z_isub g dX4_bestFor_53 ?_
    refine z_callV3 g ck_X4_bestFor q1558 q1560 qs65 cls4 (by assumption) (ih (zp I1 (t + 1) (playsF (I (t + 1)) p q)) (by omega) (by rw [zp_s]; exact ho1) (by rw [zp_s]; exact hg2)) rfl (Nat.le_of_ble_eq_true rfl) (by omega) (by omega) (by omega) dX4_bestFor_54 (z_ex fun I2 g2 => z_ans1 ?_)
    have e2 : I2 (t + 1) = playsF (I (t + 1)) p q := (zsl_row g2).trans zp_s
    rw [zp_s]
    refine z_ls7 g dX4_bestFor_57 rfl ?_
    refine z_al0 g dX4_bestFor_59 ?_
    refine zg4_1 g q1243 (Or.inl rfl) (by assumption) dX4_bestFor_60 (by assumption) ?_
    refine z_iconst g dX4_bestFor_63 zki_1 ?_
    refine z_il1 g dX4_bestFor_64 ?_
    first | with_reducible refine z_iaddN g dX4_bestFor_65 ?_ | refine z_iadd g dX4_bestFor_65 ?_
    refine z_al0 g dX4_bestFor_66 ?_
    refine z_il5 g dX4_bestFor_67 ?_
    refine z_callV1 g ck_X4_moreOf q1490 q1492 qs57 cls4 (by assumption) (c_X4_moreOf hL (by rw [e2, plays_ag hp hq 11 (by decide)]; exact hO.1)) rfl (Nat.le_of_ble_eq_true rfl) (by omega) (by omega) (by omega) dX4_bestFor_69 (z_ans1 ?_)
    refine z_iast (k := 0) g rfl (by decide) (by assumption) (by omega) (by omega) dX4_bestFor_72 ?_
    refine z_al0 g dX4_bestFor_73 ?_
    refine zg4_1 g q1243 (Or.inl rfl) (by assumption) dX4_bestFor_74 (by assumption) ?_
    refine z_iconst g dX4_bestFor_77 zki_1 ?_
    refine z_il2 g dX4_bestFor_78 ?_
    first | with_reducible refine z_iaddN g dX4_bestFor_79 ?_ | refine z_iadd g dX4_bestFor_79 ?_
    refine z_al0 g dX4_bestFor_80 ?_
    refine z_il6 g dX4_bestFor_81 ?_
    refine z_callV1 g ck_X4_fewer q1486 q1488 qs56 cls4 (by assumption) (c_X4_fewer hL (by rw [zp_s, zp_n (by omega), e2, plays_ag hp hq 11 (by decide)]; exact hO.1)) rfl (Nat.le_of_ble_eq_true rfl) (by omega) (by omega) (by omega) dX4_bestFor_83 (z_ans1 ?_)
    refine z_iast (k := 0) g rfl (by decide) (by assumption) (by omega) (by omega) dX4_bestFor_86 ?_
    refine z_mem rfl rfl (show _ = zp I2 (t + 1) (playsF (I (t + 1)) q p) from by rw [zp_s, zp_zp, e2, plays_swap hp hq hpq]) rfl rfl ?_
    refine z_al0 g dX4_bestFor_87 ?_
    refine z_il1 g dX4_bestFor_88 ?_
    refine z_il2 g dX4_bestFor_89 ?_
    refine z_il3 g dX4_bestFor_90 ?_
    refine z_iconst g dX4_bestFor_91 zki_1 ?_
    first | with_reducible refine z_isubN g dX4_bestFor_92 (by omega) ?_ | refine z_isub g dX4_bestFor_92 ?_
    refine z_callV3 g ck_X4_bestFor q1558 q1560 qs65 cls4 (by assumption) (ih (zp I2 (t + 1) (playsF (I (t + 1)) q p)) (by omega) (by rw [zp_s]; exact ho2) (by rw [zp_s]; exact hg3)) rfl (Nat.le_of_ble_eq_true rfl) (by omega) (by omega) (by omega) dX4_bestFor_93 (z_ex fun I3 g3 => z_ans1 ?_)
    have e3 : I3 (t + 1) = playsF (I (t + 1)) q p := (zsl_row g3).trans zp_s
    rw [zp_s]
    refine z_ls9 g dX4_bestFor_96 rfl ?_
    refine z_al0 g dX4_bestFor_98 ?_
    refine zg4_1 g q1243 (Or.inl rfl) (by assumption) dX4_bestFor_99 (by assumption) ?_
    refine z_iconst g dX4_bestFor_102 zki_1 ?_
    refine z_il1 g dX4_bestFor_103 ?_
    first | with_reducible refine z_iaddN g dX4_bestFor_104 ?_ | refine z_iadd g dX4_bestFor_104 ?_
    refine z_il5 g dX4_bestFor_105 ?_
    refine z_iast (k := 0) g rfl (by decide) (by assumption) (by omega) (by omega) dX4_bestFor_107 ?_
    refine z_al0 g dX4_bestFor_108 ?_
    refine zg4_1 g q1243 (Or.inl rfl) (by assumption) dX4_bestFor_109 (by assumption) ?_
    refine z_iconst g dX4_bestFor_112 zki_1 ?_
    refine z_il2 g dX4_bestFor_113 ?_
    first | with_reducible refine z_iaddN g dX4_bestFor_114 ?_ | refine z_iadd g dX4_bestFor_114 ?_
    refine z_il6 g dX4_bestFor_115 ?_
    refine z_iast (k := 0) g rfl (by decide) (by assumption) (by omega) (by omega) dX4_bestFor_117 ?_
    refine z_al0 g dX4_bestFor_118 ?_
    refine zg4_1 g q1243 (Or.inl rfl) (by assumption) dX4_bestFor_119 (by assumption) ?_
    refine z_iconst g dX4_bestFor_122 zki_0 ?_
    refine z_dup2 g dX4_bestFor_123 rfl rfl ?_
    refine z_iald (k := 0) g rfl (by assumption) (by omega) (by omega) dX4_bestFor_124 ?_
    refine z_iconst g dX4_bestFor_125 zki_1 ?_
    first | with_reducible refine z_isubN g dX4_bestFor_126 (by omega) ?_ | refine z_isub g dX4_bestFor_126 ?_
    refine z_iast (k := 0) g rfl (by decide) (by assumption) (by omega) (by omega) dX4_bestFor_127 ?_
    refine z_mem rfl rfl (show _ = zp I3 (t + 1) (I (t + 1)) from by simp only [zp_zp, zp_s, e3]; rw [plays_back hp hq hpq]) rfl rfl ?_
    refine z_il4 g dX4_bestFor_128 ?_
    refine z_i2l g dX4_bestFor_130 ?_
    refine z_ll7 g dX4_bestFor_131 ?_
    refine z_lmul g dX4_bestFor_133 ?_
    refine z_bipush g dX4_bestFor_134 zkb_10 ?_
    refine z_il4 g dX4_bestFor_136 ?_
    first | with_reducible refine z_isubN g dX4_bestFor_138 (by omega) ?_ | refine z_isub g dX4_bestFor_138 ?_
    refine z_i2l g dX4_bestFor_139 ?_
    refine z_ll9 g dX4_bestFor_140 ?_
    refine z_lmul g dX4_bestFor_142 ?_
    refine z_ladd g dX4_bestFor_143 ?_
    refine z_ls11 g dX4_bestFor_144 rfl ?_
    refine z_al0 g dX4_bestFor_146 ?_
    refine z_ldc2 g q1519 dX4_bestFor_147 ?_
    refine z_ll9 g dX4_bestFor_150 ?_
    refine z_lmul g dX4_bestFor_152 ?_
    refine z_ll11 g dX4_bestFor_153 ?_
    refine z_lcmp g dX4_bestFor_155 ?_
    refine z_if_le (tgt := 163) g dX4_bestFor_156 (by decide) (fun c156 => ?_) (fun c156 => ?_)
    · skip
      rw [lg_cmp_le] at c156
      have c156 := Int64.not_lt.mpr c156
      refine z_iconst g dX4_bestFor_163 zki_0 ?_
      refine zs4_15 g q1257 (Or.inl rfl) (by assumption) dX4_bestFor_164 zfit_0 ?_
      refine z_al0 g dX4_bestFor_167 ?_
      refine zg4_15 g q1257 (Or.inl rfl) (by assumption) dX4_bestFor_168 ?_
      simp only [zp_s]
      refine z_if_eq_t (tgt := 183) g dX4_bestFor_171 (by decide) (by decide +kernel) ?_
      refine z_ll11 g dX4_bestFor_183 ?_
      refine z_lret g r (by omega) (by omega) dX4_bestFor_185 ?_
      refine ⟨_, ?_, by rw [bestF_s]; simp only [c156, if_true, if_false], rfl, rfl, rfl, rfl, rfl⟩
      intro b hb
      rw [bestF_s]
      simp only [c156, decide_true, decide_false]
      by_cases hb0 : b = t
      · subst hb0
        rw [zp_s, zp_s, zp_n (by omega), g3 _ T2.t0, zp_s, zp_n (by omega), g2 _ T2.t0, zp_s, zp_n (by omega), g1.fld]
        simp only [zp_zp]
        rfl
      · rw [zp_n hb0, zp_n hb0]
        by_cases hb1 : b = t + 1
        · rw [hb1, zp_s]
        · rw [zp_n hb1, g3 b hb, zp_n hb0, zp_n hb1, g2 b hb, zp_n hb0, zp_n hb1]
          exact g1 b hb
    · skip
      rw [lg_cmp_le] at c156
      have c156 := Int64.not_le.mp c156
      refine z_iconst g dX4_bestFor_159 zki_1 ?_
      refine z_goto (tgt := 164) g dX4_bestFor_160 (by decide) ?_
      refine zs4_15 g q1257 (Or.inl rfl) (by assumption) dX4_bestFor_164 zfit_1 ?_
      refine z_al0 g dX4_bestFor_167 ?_
      refine zg4_15 g q1257 (Or.inl rfl) (by assumption) dX4_bestFor_168 ?_
      simp only [zp_s]
      refine z_if_eq_f (tgt := 183) g dX4_bestFor_171 (by decide) (by decide +kernel) ?_
      refine z_ldc2 g q1519 dX4_bestFor_174 ?_
      refine z_ll9 g dX4_bestFor_177 ?_
      refine z_lmul g dX4_bestFor_179 ?_
      refine z_goto (tgt := 185) g dX4_bestFor_180 (by decide) ?_
      refine z_lret g r (by omega) (by omega) dX4_bestFor_185 ?_
      refine ⟨_, ?_, by rw [bestF_s]; simp only [c156, if_true, if_false], rfl, rfl, rfl, rfl, rfl⟩
      intro b hb
      rw [bestF_s]
      simp only [c156, decide_true, decide_false]
      by_cases hb0 : b = t
      · subst hb0
        rw [zp_s, zp_s, zp_n (by omega), g3 _ T2.t0, zp_s, zp_n (by omega), g2 _ T2.t0, zp_s, zp_n (by omega), g1.fld]
        simp only [zp_zp]
        rfl
      · rw [zp_n hb0, zp_n hb0]
        by_cases hb1 : b = t + 1
        · rw [hb1, zp_s]
        · rw [zp_n hb1, g3 b hb, zp_n hb0, zp_n hb1, g2 b hb, zp_n hb0, zp_n hb1]
          exact g1 b hb
