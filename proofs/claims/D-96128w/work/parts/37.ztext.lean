/-! ===== the texts: length, charAt ===== -/
set_option maxRecDepth 100000
theorem zlen_le {i : Nat} (hi : i < 6) : zkL.getD i 0 ≤ 5 := by
  revert i
  decide +kernel
theorem zshr0 {i : Nat} (hi : i < 6) : nI (zkL.getD i 0) >>> ((0 : Int32) &&& 31) = nI (zkL.getD i 0) := by
  revert i
  decide +kernel
set_option maxHeartbeats 4000000 in
theorem c_J8_coder {E : ZE} {n : Nat} {T : ZT} {I : ZI} {L : ZL} {R : ZR} {adK adV : Nat → Nat} {i : Nat} (hS : zSt E adK adV) (hi : i < 6) : zM E yJ8_coder cJ8_coder 1 (some (Jvm.ClassFile.FieldType.byte)) 0 0 0 [.ref (adK i)] n T I L R (zis (some (.int (0))) n T I L R) := by
  refine zM.of (lv0 := [some (.ref (adK i))]) pn_J8 (Nat.le_of_ble_eq_true rfl) rfl fun G g r hin hlt hbn => ?_
  have g : zGd E G cJ8_coder RJ8 1 0 0 0 := g
  refine z_gets g (zSv_cs g.ok) q1359 (Or.inl rfl) dJ8_coder_0 ?_
  refine z_if_eq_f (tgt := 13) g dJ8_coder_3 (by decide) (by decide) ?_
  refine z_al0 g dJ8_coder_6 ?_
  refine z_txtC g hS hi q1728 dJ8_coder_7 ?_
  refine z_goto (tgt := 14) g dJ8_coder_10 (by decide) ?_
  refine z_bret g r (by omega) (by omega) (by decide +kernel) dJ8_coder_14 ?_
  exact ⟨rfl, rfl, rfl, rfl, rfl, rfl⟩

set_option maxHeartbeats 4000000 in
theorem c_J8_isLatin1 {E : ZE} {n : Nat} {T : ZT} {I : ZI} {L : ZL} {R : ZR} {adK adV : Nat → Nat} {i : Nat} (hS : zSt E adK adV) (hi : i < 6) : zM E yJ8_isLatin1 cJ8_isLatin1 1 (some (Jvm.ClassFile.FieldType.boolean)) 0 0 0 [.ref (adK i)] n T I L R (zis (some (.int (zb true))) n T I L R) := by
  refine zM.of (lv0 := [some (.ref (adK i))]) pn_J8 (Nat.le_of_ble_eq_true rfl) rfl fun G g r hin hlt hbn => ?_
  have g : zGd E G cJ8_isLatin1 RJ8 1 0 0 0 := g
  refine z_gets g (zSv_cs g.ok) q1359 (Or.inl rfl) dJ8_isLatin1_0 ?_
  refine z_if_eq_f (tgt := 17) g dJ8_isLatin1_3 (by decide) (by decide) ?_
  refine z_al0 g dJ8_isLatin1_6 ?_
  refine z_txtC g hS hi q1728 dJ8_isLatin1_7 ?_
  refine z_if_ne_f (tgt := 17) g dJ8_isLatin1_10 (by decide) (rfl) ?_
  refine z_iconst g dJ8_isLatin1_13 zki_1 ?_
  refine z_goto (tgt := 18) g dJ8_isLatin1_14 (by decide) ?_
  refine z_zret g r (by omega) (by omega) zfit_1.1 dJ8_isLatin1_18 ?_
  exact ⟨rfl, rfl, rfl, rfl, rfl, rfl⟩

set_option maxHeartbeats 4000000 in
theorem c_J8_length {E : ZE} {n : Nat} {T : ZT} {I : ZI} {L : ZL} {R : ZR} {adK adV : Nat → Nat} {i : Nat} (hS : zSt E adK adV) (hi : i < 6) : zM E yJ8_length cJ8_length 1 (some (Jvm.ClassFile.FieldType.int)) 1 0 0 [.ref (adK i)] n T I L R (zis (some (.int (nI (zkL.getD i 0)))) n T I L R) := by
  refine zM.of (lv0 := [some (.ref (adK i))]) pn_J8 (Nat.le_of_ble_eq_true rfl) rfl fun G g r hin hlt hbn => ?_
  have g : zGd E G cJ8_length RJ8 1 1 0 0 := g
  refine z_al0 g dJ8_length_0 ?_
  refine z_txtV g hS hi q1727 dJ8_length_1 ?_
  refine z_txtN g hS hi dJ8_length_4 ?_
  refine z_al0 g dJ8_length_5 ?_
  refine z_callT0 g ck_J8_coder q1355 q1356 q1357 hS hi (c_J8_coder hS hi) rfl (Nat.le_of_ble_eq_true rfl) (by omega) (by omega) (by omega) dJ8_length_6 (z_ans1 ?_)
  refine z_ishr g dJ8_length_9 ?_
  refine z_iret g r (by omega) (by omega) dJ8_length_10 ?_
  exact ⟨by rw [zshr0 hi], rfl, rfl, rfl, rfl, rfl⟩

set_option maxHeartbeats 4000000 in
theorem c_J10_checkIndexN {E : ZE} {n : Nat} {T : ZT} {I : ZI} {L : ZL} {R : ZR} {a b : Nat} (hab : a < b) (hb : b < 2 ^ 31) : zM E yJ10_checkIndex cJ10_checkIndex 3 (some (Jvm.ClassFile.FieldType.int)) 0 0 0 [.int (nI a), .int (nI b), .null] n T I L R (zis (some (.int (nI a))) n T I L R) := by
  refine zM.of (lv0 := [some (.int (nI a)), some (.int (nI b)), some (.null)]) pn_J10 (Nat.le_of_ble_eq_true rfl) rfl fun G g r hin hlt hbn => ?_
  have g : zGd E G cJ10_checkIndex RJ10 3 0 0 0 := g
  refine z_il0 g dJ10_checkIndex_0 ?_
  refine z_if_lt_f (tgt := 9) g dJ10_checkIndex_1 (by decide) (Int32.not_lt.mpr (nI_pos' (by omega))) ?_
  refine z_il0 g dJ10_checkIndex_4 ?_
  refine z_il1 g dJ10_checkIndex_5 ?_
  refine z_icmp_lt_t (tgt := 16) g dJ10_checkIndex_6 (by decide) (nI_lt hab hb) ?_
  refine z_il0 g dJ10_checkIndex_16 ?_
  refine z_iret g r (by omega) (by omega) dJ10_checkIndex_17 ?_
  exact ⟨rfl, rfl, rfl, rfl, rfl, rfl⟩

set_option maxHeartbeats 4000000 in
theorem c_J10_checkIndexR {E : ZE} {n : Nat} {T : ZT} {I : ZI} {L : ZL} {R : ZR} {a b : Nat} (hab : a < b) (hb : b < 2 ^ 31) {q : Nat} : zM E yJ10_checkIndex cJ10_checkIndex 3 (some (Jvm.ClassFile.FieldType.int)) 0 0 0 [.int (nI a), .int (nI b), .ref q] n T I L R (zis (some (.int (nI a))) n T I L R) := by
  refine zM.of (lv0 := [some (.int (nI a)), some (.int (nI b)), some (.ref q)]) pn_J10 (Nat.le_of_ble_eq_true rfl) rfl fun G g r hin hlt hbn => ?_
  have g : zGd E G cJ10_checkIndex RJ10 3 0 0 0 := g
  refine z_il0 g dJ10_checkIndex_0 ?_
  refine z_if_lt_f (tgt := 9) g dJ10_checkIndex_1 (by decide) (Int32.not_lt.mpr (nI_pos' (by omega))) ?_
  refine z_il0 g dJ10_checkIndex_4 ?_
  refine z_il1 g dJ10_checkIndex_5 ?_
  refine z_icmp_lt_t (tgt := 16) g dJ10_checkIndex_6 (by decide) (nI_lt hab hb) ?_
  refine z_il0 g dJ10_checkIndex_16 ?_
  refine z_iret g r (by omega) (by omega) dJ10_checkIndex_17 ?_
  exact ⟨rfl, rfl, rfl, rfl, rfl, rfl⟩

theorem c_J10_checkIndex {E : ZE} {n : Nat} {T : ZT} {I : ZI} {L : ZL} {R : ZR} {a b : Nat} (hab : a < b) (hb : b < 2 ^ 31) {rr : Option Nat} : zM E yJ10_checkIndex cJ10_checkIndex 3 (some (Jvm.ClassFile.FieldType.int)) 0 0 0 [.int (nI a), .int (nI b), va_rf rr] n T I L R (zis (some (.int (nI a))) n T I L R) := by
  cases rr
  · exact c_J10_checkIndexN hab hb
  · exact c_J10_checkIndexR hab hb
set_option maxHeartbeats 4000000 in
theorem c_J8_checkIndex {E : ZE} {n : Nat} {T : ZT} {I : ZI} {L : ZL} {R : ZR} {a b : Nat} (hab : a < b) (hb : b < 2 ^ 31) : zM E yJ8_checkIndex cJ8_checkIndex 2 none 1 0 0 [.int (nI a), .int (nI b)] n T I L R (zis none n T I L R) := by
  refine zM.of (lv0 := [some (.int (nI a)), some (.int (nI b))]) pn_J8 (Nat.le_of_ble_eq_true rfl) rfl fun G g r hin hlt hbn => ?_
  have g : zGd E G cJ8_checkIndex RJ8 2 1 0 0 := g
  obtain ⟨rr, hrr⟩ := zSv_sf g.ok
  refine z_il0 g dJ8_checkIndex_0 ?_
  refine z_il1 g dJ8_checkIndex_1 ?_
  refine z_gets g hrr q1375 (Or.inl rfl) dJ8_checkIndex_2 ?_
  refine z_callS3 g ck_J10_checkIndex q1377 q718 (c_J10_checkIndex hab hb) rfl (Nat.le_of_ble_eq_true rfl) (by omega) (by omega) (by omega) dJ8_checkIndex_5 (z_ans1 ?_)
  refine z_pop g dJ8_checkIndex_8 rfl ?_
  refine z_vret g r (by omega) (by omega) dJ8_checkIndex_9 ?_
  exact ⟨rfl, rfl, rfl, rfl, rfl, rfl⟩

theorem zbyteD : ∀ i : Nat, i < 6 → ∀ j : Nat, j < 5 → j < zkL.getD i 0 → (((zkB.getD i []).getD j 0 &&& nI 255).toUInt32 % 65536).toInt32 = (zkB.getD i []).getD j 0 ∧ narrow .char (.int ((zkB.getD i []).getD j 0)) = .int ((zkB.getD i []).getD j 0) := by decide +kernel
theorem zbyte {i j : Nat} (hi : i < 6) (hj : j < zkL.getD i 0) : ((((zkB.getD i []).getD j 0 &&& nI 255).toUInt32 % 65536).toInt32 = (zkB.getD i []).getD j 0 ∧ narrow .char (.int ((zkB.getD i []).getD j 0)) = .int ((zkB.getD i []).getD j 0)) ∧ j < 1000 := by
  have h5 := zlen_le hi
  exact ⟨zbyteD i hi j (by omega) hj, by omega⟩
set_option maxHeartbeats 4000000 in
theorem c_J9_charAt {E : ZE} {n : Nat} {T : ZT} {I : ZI} {L : ZL} {R : ZR} {adK adV : Nat → Nat} {i : Nat} (hS : zSt E adK adV) (hi : i < 6) {j : Nat} (hj : j < zkL.getD i 0) : zM E yJ9_charAt cJ9_charAt 2 (some (Jvm.ClassFile.FieldType.char)) 2 0 0 [.ref (adV i), .int (nI j)] n T I L R (zis (some (.int ((zkB.getD i []).getD j 0))) n T I L R) := by
  refine zM.of (lv0 := [some (.ref (adV i)), some (.int (nI j))]) pn_J9 (Nat.le_of_ble_eq_true rfl) rfl fun G g r hin hlt hbn => ?_
  have g : zGd E G cJ9_charAt RJ9 2 2 0 0 := g
  obtain ⟨⟨hb1, hb3⟩, hj31⟩ := zbyte hi hj
  have hlen := zlen_le hi
  refine z_il1 g dJ9_charAt_0 ?_
  refine z_al0 g dJ9_charAt_1 ?_
  refine z_txtN g hS hi dJ9_charAt_2 ?_
  refine z_callS2 g ck_J8_checkIndex q1372 q1373 (c_J8_checkIndex hj (by omega)) rfl (Nat.le_of_ble_eq_true rfl) (by omega) (by omega) (by omega) dJ9_charAt_3 (z_ans0 ?_)
  refine z_al0 g dJ9_charAt_6 ?_
  refine z_il1 g dJ9_charAt_7 ?_
  refine z_txtB g hS hi hj (by omega) dJ9_charAt_8 ?_
  refine z_sipush g dJ9_charAt_9 zks_255 ?_
  refine z_iand g dJ9_charAt_12 ?_
  refine z_i2c g dJ9_charAt_13 ?_
  refine z_top hb1 ?_
  refine z_cret g r (by omega) (by omega) hb3 dJ9_charAt_14 ?_
  exact ⟨rfl, rfl, rfl, rfl, rfl, rfl⟩

set_option maxHeartbeats 4000000 in
theorem c_J8_charAt {E : ZE} {n : Nat} {T : ZT} {I : ZI} {L : ZL} {R : ZR} {adK adV : Nat → Nat} {i : Nat} (hS : zSt E adK adV) (hi : i < 6) {j : Nat} (hj : j < zkL.getD i 0) : zM E yJ8_charAt cJ8_charAt 2 (some (Jvm.ClassFile.FieldType.char)) 3 0 0 [.ref (adK i), .int (nI j)] n T I L R (zis (some (.int ((zkB.getD i []).getD j 0))) n T I L R) := by
  refine zM.of (lv0 := [some (.ref (adK i)), some (.int (nI j))]) pn_J8 (Nat.le_of_ble_eq_true rfl) rfl fun G g r hin hlt hbn => ?_
  have g : zGd E G cJ8_charAt RJ8 2 3 0 0 := g
  obtain ⟨⟨hb1, hb3⟩, hj31⟩ := zbyte hi hj
  refine z_al0 g dJ8_charAt_0 ?_
  refine z_callT0 g ck_J8_isLatin1 q1365 q1366 q1367 hS hi (c_J8_isLatin1 hS hi) rfl (Nat.le_of_ble_eq_true rfl) (by omega) (by omega) (by omega) dJ8_charAt_1 (z_ans1 ?_)
  refine z_ifb_eq (tgt := 16) g dJ8_charAt_4 (by decide) (fun c4 => ?_) (fun c4 => ?_)
  · skip
    cases c4
  · skip
    refine z_al0 g dJ8_charAt_7 ?_
    refine z_txtV g hS hi q1727 dJ8_charAt_8 ?_
    refine z_il1 g dJ8_charAt_11 ?_
    refine z_callS2 g ck_J9_charAt q1369 q1370 (c_J9_charAt hS hi hj) rfl (Nat.le_of_ble_eq_true rfl) (by omega) (by omega) (by omega) dJ8_charAt_12 (z_ans1 ?_)
    refine z_cret g r (by omega) (by omega) hb3 dJ8_charAt_15 ?_
    exact ⟨rfl, rfl, rfl, rfl, rfl, rfl⟩

theorem zkLB {x : Nat} (hx : x < 6) : zkL.getD x 0 = (zkB.getD x []).length := by
  revert x
  decide +kernel
theorem zkB_pos {x k : Nat} (hx : x < 6) (hk : k < zkL.getD x 0) : (0 : Int32) ≤ (zkB.getD x []).getD k 0 := by
  have h5 := zlen_le hx
  have key : ∀ x : Nat, x < 6 → ∀ k : Nat, k < 5 → (0 : Int32) ≤ (zkB.getD x []).getD k 0 := by decide +kernel
  exact key x hx k (by omega)
theorem drop_get {l : List Int32} {k : Nat} (h : k < l.length) : l.drop k = l.getD k 0 :: l.drop (k + 1) := by
  rw [List.drop_eq_getElem_cons h, List.getD_eq_getElem?_getD, List.getElem?_eq_getElem h]
  rfl
