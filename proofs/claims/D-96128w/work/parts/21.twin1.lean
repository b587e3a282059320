/-! ===== the twin: its layout, its small methods ===== -/
set_option maxRecDepth 100000
/-- where the twin's cells lie -/
def TL (T : ZT) (R : ZR) (t : Nat) : Prop := T t = zo 4 ∧ R t 1 = some (t + 1) ∧ T (t + 1) = za 0 889 ∧ R t 2 = some (t + 2) ∧ T (t + 2) = za 0 889 ∧ R t 3 = some (t + 3) ∧ T (t + 3) = za 0 6 ∧ R t 10 = some (t + 4) ∧ T (t + 4) = za 0 5 ∧ R t 11 = some (t + 5) ∧ T (t + 5) = za 4 64 ∧ T (t + 6) = za 3 5733 ∧ T (t + 7) = za 3 5733 ∧ R t 16 = some (t + 8) ∧ T (t + 8) = za 0 4 ∧ R t 17 = some (t + 9) ∧ T (t + 9) = za 0 4 ∧ R t 19 = some (t + 10) ∧ T (t + 10) = za 0 20
/-- the first k places of f, behind them g -/
def zfst (k : Nat) (f g : Nat → Int32) : Nat → Int32 := fun j => if j < k then f j else g j
theorem zfst_0 {f g : Nat → Int32} : zfst 0 f g = g := rfl
theorem zfst_put {k : Nat} {f g : Nat → Int32} : zp (zfst k f g) k (f k) = zfst (k + 1) f g := by
  funext j
  unfold zp zfst
  by_cases h : j = k
  · rw [if_pos h, if_pos (by omega), h]
  · rw [if_neg h]
    by_cases h2 : j < k
    · rw [if_pos h2, if_pos (by omega)]
    · rw [if_neg h2, if_neg (by omega)]
set_option maxHeartbeats 4000000 in
theorem c_X4_in {E : ZE} {n : Nat} {T : ZT} {I : ZI} {L : ZL} {R : ZR} {v lo hi : Int32} : zM E yX4_in cX4_in 3 (some (Jvm.ClassFile.FieldType.boolean)) 0 0 0 [.int v, .int lo, .int hi] n T I L R (zis (some (.int (zb (inB v lo hi)))) n T I L R) := by
  refine zM.of (lv0 := [some (.int v), some (.int lo), some (.int hi)]) pn_X4 (Nat.le_of_ble_eq_true rfl) rfl fun G g r hin hlt hbn => ?_
  have g : zGd E G cX4_in RX4 3 0 0 0 := g
  refine z_il0 g dX4_in_0 ?_
  refine z_il1 g dX4_in_1 ?_
  refine z_icmp_lt (tgt := 14) g dX4_in_2 (by decide) (fun c2 => ?_) (fun c2 => ?_)
  · skip
    refine z_iconst g dX4_in_14 zki_0 ?_
    refine z_zret g r (by omega) (by omega) zfit_0.1 dX4_in_15 ?_
    exact ⟨by simp [inB, zb, *], rfl, rfl, rfl, rfl, rfl⟩
  · skip
    refine z_il0 g dX4_in_5 ?_
    refine z_il2 g dX4_in_6 ?_
    refine z_icmp_gt (tgt := 14) g dX4_in_7 (by decide) (fun c7 => ?_) (fun c7 => ?_)
    · skip
      refine z_iconst g dX4_in_14 zki_0 ?_
      refine z_zret g r (by omega) (by omega) zfit_0.1 dX4_in_15 ?_
      exact ⟨by simp [inB, zb, *], rfl, rfl, rfl, rfl, rfl⟩
    · skip
      refine z_iconst g dX4_in_10 zki_1 ?_
      refine z_goto (tgt := 15) g dX4_in_11 (by decide) ?_
      refine z_zret g r (by omega) (by omega) zfit_1.1 dX4_in_15 ?_
      exact ⟨by simp [inB, zb, *], rfl, rfl, rfl, rfl, rfl⟩

set_option maxHeartbeats 4000000 in
theorem c_X4_isPlayer {E : ZE} {n : Nat} {T : ZT} {I : ZI} {L : ZL} {R : ZR} {t : Nat} {p : Int32} (hL : TL T R t) : zM E yX4_isPlayer cX4_isPlayer 2 (some (Jvm.ClassFile.FieldType.boolean)) 1 0 0 [.ref t, .int p] n T I L R (zis (some (.int (zb (isPlB (I (t + 1)) p)))) n T I L R) := by
  refine zM.of (lv0 := [some (.ref t), some (.int p)]) pn_X4 (Nat.le_of_ble_eq_true rfl) rfl fun G g r hin hlt hbn => ?_
  have g : zGd E G cX4_isPlayer RX4 2 1 0 0 := g
  have hL0 := hL
  obtain ⟨hT, h1, ht1, h2, ht2, h3, ht3, h10, ht4, h11, ht5, ht6, ht7, h16, ht8, h17, ht9, h19, ht10⟩ := hL0
  refine z_il1 g dX4_isPlayer_0 ?_
  refine z_iconst g dX4_isPlayer_1 zki_0 ?_
  refine z_al0 g dX4_isPlayer_2 ?_
  refine zg4_1 g q1243 (Or.inl rfl) (by assumption) dX4_isPlayer_3 (by assumption) ?_
  refine z_bipush g dX4_isPlayer_6 zkb_6 ?_
  refine z_iald (k := 0) g rfl (by assumption) (by omega) (by omega) dX4_isPlayer_8 ?_
  refine z_iconst g dX4_isPlayer_9 zki_1 ?_
  first | with_reducible refine z_isubN g dX4_isPlayer_10 (by omega) ?_ | refine z_isub g dX4_isPlayer_10 ?_
  refine z_callS3 g ck_X4_in q1319 q1320 c_X4_in rfl (Nat.le_of_ble_eq_true rfl) (by omega) (by omega) (by omega) dX4_isPlayer_11 (z_ans1 ?_)
  refine z_zret g r (by omega) (by omega) (zb_nar _) dX4_isPlayer_14 ?_
  exact ⟨rfl, rfl, rfl, rfl, rfl, rfl⟩

set_option maxHeartbeats 4000000 in
theorem c_X4_areTwo {E : ZE} {n : Nat} {T : ZT} {I : ZI} {L : ZL} {R : ZR} {t : Nat} {p q : Int32} (hL : TL T R t) : zM E yX4_areTwo cX4_areTwo 3 (some (Jvm.ClassFile.FieldType.boolean)) 2 0 0 [.ref t, .int p, .int q] n T I L R (zis (some (.int (zb (twoB (I (t + 1)) p q)))) n T I L R) := by
  refine zM.of (lv0 := [some (.ref t), some (.int p), some (.int q)]) pn_X4 (Nat.le_of_ble_eq_true rfl) rfl fun G g r hin hlt hbn => ?_
  have g : zGd E G cX4_areTwo RX4 3 2 0 0 := g
  have hL0 := hL
  obtain ⟨hT, h1, ht1, h2, ht2, h3, ht3, h10, ht4, h11, ht5, ht6, ht7, h16, ht8, h17, ht9, h19, ht10⟩ := hL0
  refine z_al0 g dX4_areTwo_0 ?_
  refine z_il1 g dX4_areTwo_1 ?_
  refine z_callV1 g ck_X4_isPlayer q1438 q1440 qs50 cls4 (by assumption) (c_X4_isPlayer hL) rfl (Nat.le_of_ble_eq_true rfl) (by omega) (by omega) (by omega) dX4_areTwo_2 (z_ans1 ?_)
  refine z_ifb_eq (tgt := 25) g dX4_areTwo_5 (by decide) (fun c5 => ?_) (fun c5 => ?_)
  · skip
    refine z_iconst g dX4_areTwo_25 zki_0 ?_
    refine z_zret g r (by omega) (by omega) zfit_0.1 dX4_areTwo_26 ?_
    exact ⟨by simp [twoB, zb, *], rfl, rfl, rfl, rfl, rfl⟩
  · skip
    refine z_al0 g dX4_areTwo_8 ?_
    refine z_il2 g dX4_areTwo_9 ?_
    refine z_callV1 g ck_X4_isPlayer q1438 q1440 qs50 cls4 (by assumption) (c_X4_isPlayer hL) rfl (Nat.le_of_ble_eq_true rfl) (by omega) (by omega) (by omega) dX4_areTwo_10 (z_ans1 ?_)
    refine z_ifb_eq (tgt := 25) g dX4_areTwo_13 (by decide) (fun c13 => ?_) (fun c13 => ?_)
    · skip
      refine z_iconst g dX4_areTwo_25 zki_0 ?_
      refine z_zret g r (by omega) (by omega) zfit_0.1 dX4_areTwo_26 ?_
      exact ⟨by simp [twoB, zb, *], rfl, rfl, rfl, rfl, rfl⟩
    · skip
      refine z_il1 g dX4_areTwo_16 ?_
      refine z_il2 g dX4_areTwo_17 ?_
      refine z_icmp_eq (tgt := 25) g dX4_areTwo_18 (by decide) (fun c18 => ?_) (fun c18 => ?_)
      · skip
        refine z_iconst g dX4_areTwo_25 zki_0 ?_
        refine z_zret g r (by omega) (by omega) zfit_0.1 dX4_areTwo_26 ?_
        exact ⟨by simp [twoB, zb, *], rfl, rfl, rfl, rfl, rfl⟩
      · skip
        refine z_iconst g dX4_areTwo_21 zki_1 ?_
        refine z_goto (tgt := 26) g dX4_areTwo_22 (by decide) ?_
        refine z_zret g r (by omega) (by omega) zfit_1.1 dX4_areTwo_26 ?_
        exact ⟨by simp [twoB, zb, *], rfl, rfl, rfl, rfl, rfl⟩

set_option maxHeartbeats 4000000 in
theorem c_X4_keeps {E : ZE} {n : Nat} {T : ZT} {I : ZI} {L : ZL} {R : ZR} {t : Nat} (hL : TL T R t) : zM E yX4_keeps cX4_keeps 2 none 0 0 0 [.ref t] n T I L R (zis (none) n T (zp I (t + 3) (zfst 6 (I (t + 1)) (I (t + 3)))) L R) := by
  refine zM.of (lv0 := [some (.ref t), none]) pn_X4 (Nat.le_of_ble_eq_true rfl) rfl fun G g r hin hlt hbn => ?_
  have g : zGd E G cX4_keeps RX4 2 0 0 0 := g
  have hL0 := hL
  obtain ⟨hT, h1, ht1, h2, ht2, h3, ht3, h10, ht4, h11, ht5, ht6, ht7, h16, ht8, h17, ht9, h19, ht10⟩ := hL0
  have loop : ∀ m k : Nat, k + m = 6 → Z E G 0 0 n T (zp I (t + 3) (zfst k (I (t + 1)) (I (t + 3)))) L R 2 [some (.ref t), some (.int (nI k))] [] := by
    intro m
    induction m with
    | zero =>
      intro k hk
      obtain rfl : k = 6 := by omega
      refine z_il1 g dX4_keeps_2 ?_
      refine z_bipush g dX4_keeps_3 zkb_6 ?_
      refine z_icmp_ge_t (tgt := 26) g dX4_keeps_5 (by decide) (by decide +kernel) ?_
      refine z_vret g r (by omega) (by omega) dX4_keeps_26 ?_
      exact ⟨rfl, rfl, rfl, rfl, rfl, rfl⟩
    | succ m ih =>
      intro k hk
      refine z_il1 g dX4_keeps_2 ?_
      refine z_bipush g dX4_keeps_3 zkb_6 ?_
      refine z_icmp_ge_f (tgt := 26) g dX4_keeps_5 (by decide) (nI_ge (by omega) (by omega)) ?_
      refine z_al0 g dX4_keeps_8 ?_
      refine zg4_3 g q1245 (Or.inl rfl) (by assumption) dX4_keeps_9 (by assumption) ?_
      refine z_il1 g dX4_keeps_12 ?_
      refine z_al0 g dX4_keeps_13 ?_
      refine zg4_1 g q1243 (Or.inl rfl) (by assumption) dX4_keeps_14 (by assumption) ?_
      refine z_il1 g dX4_keeps_17 ?_
      refine z_iald (k := 0) g rfl (by assumption) (by omega) (by omega) dX4_keeps_18 ?_
      refine z_iast (k := 0) g rfl (by decide) (by assumption) (by omega) (by omega) dX4_keeps_19 ?_
      rw [show zp (zp I (t + 3) (zfst k (I (t + 1)) (I (t + 3)))) (t + 3) (zp ((zp I (t + 3) (zfst k (I (t + 1)) (I (t + 3)))) (t + 3)) k ((zp I (t + 3) (zfst k (I (t + 1)) (I (t + 3)))) (t + 1) k)) = zp I (t + 3) (zfst (k + 1) (I (t + 1)) (I (t + 3))) by rw [zp_zp, zp_s, zp_n (by omega), zfst_put]]
      first | with_reducible refine z_inc1 g dX4_keeps_20 (zinc1 _) rfl ?_ | refine z_inc1 g dX4_keeps_20 rfl rfl ?_
      refine z_goto (tgt := 2) g dX4_keeps_23 (by decide) ?_
      exact ih (k + 1) (by omega)
  refine z_iconst g dX4_keeps_0 zki_0 ?_
  refine z_is1 g dX4_keeps_1 rfl ?_
  have h := loop 6 0 rfl
  rw [zfst_0, zp_self] at h
  exact h

set_option maxHeartbeats 4000000 in
theorem c_X4_goesBack {E : ZE} {n : Nat} {T : ZT} {I : ZI} {L : ZL} {R : ZR} {t : Nat} (hL : TL T R t) : zM E yX4_goesBack cX4_goesBack 2 none 0 0 0 [.ref t] n T I L R (zis (none) n T (zp I (t + 1) (zfst 6 (I (t + 3)) (I (t + 1)))) L R) := by
  refine zM.of (lv0 := [some (.ref t), none]) pn_X4 (Nat.le_of_ble_eq_true rfl) rfl fun G g r hin hlt hbn => ?_
  have g : zGd E G cX4_goesBack RX4 2 0 0 0 := g
  have hL0 := hL
  obtain ⟨hT, h1, ht1, h2, ht2, h3, ht3, h10, ht4, h11, ht5, ht6, ht7, h16, ht8, h17, ht9, h19, ht10⟩ := hL0
  have loop : ∀ m k : Nat, k + m = 6 → Z E G 0 0 n T (zp I (t + 1) (zfst k (I (t + 3)) (I (t + 1)))) L R 2 [some (.ref t), some (.int (nI k))] [] := by
    intro m
    induction m with
    | zero =>
      intro k hk
      obtain rfl : k = 6 := by omega
      refine z_il1 g dX4_goesBack_2 ?_
      refine z_bipush g dX4_goesBack_3 zkb_6 ?_
      refine z_icmp_ge_t (tgt := 26) g dX4_goesBack_5 (by decide) (by decide +kernel) ?_
      refine z_vret g r (by omega) (by omega) dX4_goesBack_26 ?_
      exact ⟨rfl, rfl, rfl, rfl, rfl, rfl⟩
    | succ m ih =>
      intro k hk
      refine z_il1 g dX4_goesBack_2 ?_
      refine z_bipush g dX4_goesBack_3 zkb_6 ?_
      refine z_icmp_ge_f (tgt := 26) g dX4_goesBack_5 (by decide) (nI_ge (by omega) (by omega)) ?_
      refine z_al0 g dX4_goesBack_8 ?_
      refine zg4_1 g q1243 (Or.inl rfl) (by assumption) dX4_goesBack_9 (by assumption) ?_
      refine z_il1 g dX4_goesBack_12 ?_
      refine z_al0 g dX4_goesBack_13 ?_
      refine zg4_3 g q1245 (Or.inl rfl) (by assumption) dX4_goesBack_14 (by assumption) ?_
      refine z_il1 g dX4_goesBack_17 ?_
      refine z_iald (k := 0) g rfl (by assumption) (by omega) (by omega) dX4_goesBack_18 ?_
      refine z_iast (k := 0) g rfl (by decide) (by assumption) (by omega) (by omega) dX4_goesBack_19 ?_
      rw [show zp (zp I (t + 1) (zfst k (I (t + 3)) (I (t + 1)))) (t + 1) (zp ((zp I (t + 1) (zfst k (I (t + 3)) (I (t + 1)))) (t + 1)) k ((zp I (t + 1) (zfst k (I (t + 3)) (I (t + 1)))) (t + 3) k)) = zp I (t + 1) (zfst (k + 1) (I (t + 3)) (I (t + 1))) by rw [zp_zp, zp_s, zp_n (by omega), zfst_put]]
      first | with_reducible refine z_inc1 g dX4_goesBack_20 (zinc1 _) rfl ?_ | refine z_inc1 g dX4_goesBack_20 rfl rfl ?_
      refine z_goto (tgt := 2) g dX4_goesBack_23 (by decide) ?_
      exact ih (k + 1) (by omega)
  refine z_iconst g dX4_goesBack_0 zki_0 ?_
  refine z_is1 g dX4_goesBack_1 rfl ?_
  have h := loop 6 0 rfl
  rw [zfst_0, zp_self] at h
  exact h

