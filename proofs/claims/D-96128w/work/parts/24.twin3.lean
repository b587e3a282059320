/-! ===== the twin: lifted, pushes, odds ===== -/
set_option maxRecDepth 100000
/-- locals forgotten -/
def zsub : List (Option Value) → List (Option Value) → Prop
  | [], [] => True
  | none :: t, _ :: u => zsub t u
  | some v :: t, w :: u => w = some v ∧ zsub t u
  | _, _ => False
theorem zsub_at : ∀ (a b : List (Option Value)), zsub a b → a.length = b.length ∧ ∀ (i : Nat) (v : Value), a[i]? = some (some v) → b[i]? = some (some v)
  | [], [], _ => ⟨rfl, fun i v h => by simp at h⟩
  | none :: t, w :: u, h => by
    obtain ⟨h1, h2⟩ := zsub_at t u h
    refine ⟨by simp [h1], fun i v e => ?_⟩
    cases i with
    | zero => simp at e
    | succ i =>
      rw [List.getElem?_cons_succ] at e ⊢
      exact h2 i v e
  | some x :: t, w :: u, h => by
    obtain ⟨h1, h2⟩ := zsub_at t u h.2
    refine ⟨by simp [h1], fun i v e => ?_⟩
    cases i with
    | zero =>
      rw [List.getElem?_cons_zero] at e ⊢
      rw [h.1]
      exact e
    | succ i =>
      rw [List.getElem?_cons_succ] at e ⊢
      exact h2 i v e
theorem z_sub {E : ZE} {G : ZG} {kc ks n : Nat} {T : ZT} {I : ZI} {L : ZL} {R : ZR} {pc : Nat} {lv lv' : List (Option Value)} {st : List Value} (h : zsub lv' lv) (k : Z E G kc ks n T I L R pc lv' st) : Z E G kc ks n T I L R pc lv st := z_lvs (zsub_at _ _ h).1 (zsub_at _ _ h).2 k
theorem zdec1 (a : Nat) : nI (a + 1) + Int32.ofInt (-1) = nI a := by
  rw [show Int32.ofInt (-1) = (-1 : Int32) from by decide +kernel]
  exact pk_m1 a
theorem envF_row (f : SV) (sv : SV) (p q : Nat) : ∀ j : Nat, j < 5 → zp (zp (zp (zp (zp f 0 (nI p)) 1 (sv (12 + p))) 2 (sv (1 + p))) 3 (sv (1 + q))) 4 (zrem (sv 0) (nI 10)) j = envF sv p q j := by
  intro j hj
  match j, hj with
  | 0, _ => rfl
  | 1, _ => rfl
  | 2, _ => rfl
  | 3, _ => rfl
  | 4, _ => rfl
/-- two rows of scratch -/
def zscr (v : Option Value) (n : Nat) (T : ZT) (I : ZI) (a b : Nat) (L : ZL) (R : ZR) : ZP := zex (fun _ : SV × SV => True) (fun w => zis v n T (zp (zp I a w.1) b w.2) L R)
set_option maxHeartbeats 4000000 in
theorem c_X4_lifted {E : ZE} {n : Nat} {T : ZT} {I : ZI} {L : ZL} {R : ZR} {t : Nat} (hL : TL T R t) (hH : holdOK (I (t + 1) 11)) (hM : ∀ h : Nat, h < 5 → I (t + 1) 11 = nI h → ∃ m : Nat, m ≤ 140 ∧ I (t + 1) (184 + h) = nI m) (hS : depOK (stepsF (I (t + 1))) 0) {p q : Nat} (hp : p < 5) (hq : q < 5) : zM E yX4_lifted cX4_lifted 12 (some (Jvm.ClassFile.FieldType.int)) 0 0 0 [.ref t, .int (nI p), .int (nI q)] n T I L R (zscr (some (.int (liftF (I (t + 1)) p q))) n T I (t + 4) (t + 5) L R) := by
  refine zM.of (lv0 := [some (.ref t), some (.int (nI p)), some (.int (nI q)), none, none, none, none, none, none, none, none, none]) pn_X4 (Nat.le_of_ble_eq_true rfl) rfl fun G g r hin hlt hbn => ?_
  have g : zGd E G cX4_lifted RX4 12 0 0 0 := g
  have hL0 := hL
  obtain ⟨hT, h1, ht1, h2, ht2, h3, ht3, h10, ht4, h11, ht5, ht6, ht7, h16, ht8, h17, ht9, h19, ht10⟩ := hL0
  have loop : ∀ (e : SV), (∀ j : Nat, j < 5 → e j = envF (I (t + 1)) p q j) → ∀ (frm many : Nat), frm + many ≤ 889 → ∀ (l : List Int32) (i top : Nat) (sum : Int32) (tr : Nat → Int32) (st : List Bool), (∀ j : Nat, j < l.length → I (t + 1) (i + j) = l.getD j 0) → i + l.length = frm + many → depOK l top → top = st.length → top ≤ 64 → stk tr st → (runF (envF (I (t + 1)) p q) l (st, sum)).2 = liftF (I (t + 1)) p q → Z E G 0 0 n T (zp (zp I (t + 4) e) (t + 5) tr) L R 124 [some (.ref t), some (.int (nI p)), some (.int (nI q)), some (.int sum), some (.int (nI many)), some (.int (nI frm)), some (.int (nI top)), some (.int (nI i)), none, none, none, none] [] := by
    intro e he frm many hb l
    induction l with
    | nil =>
      intro i top sum tr st hl hi hdp htop h64 hst hres
      have hi : i = frm + many := hi
      refine z_il7 g dX4_lifted_124 ?_
      refine z_il5 g dX4_lifted_126 ?_
      refine z_il4 g dX4_lifted_128 ?_
      first | with_reducible refine z_iaddN g dX4_lifted_130 ?_ | refine z_iadd g dX4_lifted_130 ?_
      refine z_icmp_ge_t (tgt := 410) g dX4_lifted_131 (by decide) (nI_le (by omega) (by omega)) ?_
      refine z_il3 g dX4_lifted_410 ?_
      refine z_iret g r (by omega) (by omega) dX4_lifted_411 ?_
      exact ⟨(e, tr), trivial, by rw [← hres]; rfl, rfl, rfl, rfl, rfl, rfl⟩
    | cons s l ih =>
      intro i top sum tr st hl hi hdp htop h64 hst hres
      have hi : i + l.length + 1 = frm + many := by
        simp only [List.length_cons] at hi
        omega
      have hs : I (t + 1) i = s := hl 0 (by simp)
      have hl2 : ∀ j : Nat, j < l.length → I (t + 1) (i + 1 + j) = l.getD j 0 := fun j hj => by
        have := hl (j + 1) (by simp; omega)
        rw [show i + 1 + j = i + (j + 1) by omega]
        exact this
      rcases hdp with ⟨m, hm, hm30, hm8, hdp64, hdp⟩ | ⟨hm, hdp1, hdp⟩ | ⟨hm, hdp2, hdp⟩ | ⟨hm, hdp1, hdp⟩
      · skip
        subst hm
        have hst2 := stepF_A (env := (envF (I (t + 1)) p q)) (st := (st, sum)) (m := m) (by omega)
        refine z_il7 g dX4_lifted_124 ?_
        refine z_il5 g dX4_lifted_126 ?_
        refine z_il4 g dX4_lifted_128 ?_
        first | with_reducible refine z_iaddN g dX4_lifted_130 ?_ | refine z_iadd g dX4_lifted_130 ?_
        refine z_icmp_ge_f (tgt := 410) g dX4_lifted_131 (by decide) (nI_ge (by omega) (by omega)) ?_
        refine z_al0 g dX4_lifted_134 ?_
        refine zg4_1 g q1243 (Or.inl rfl) (by assumption) dX4_lifted_135 (by assumption) ?_
        refine z_il7 g dX4_lifted_138 ?_
        refine z_iald (k := 0) g rfl (by assumption) (by omega) (by omega) dX4_lifted_140 ?_
        refine z_top ((show _ = I (t + 1) i by rw [zp_n (by omega), zp_n (by omega)]).trans hs) ?_
        refine z_is8 g dX4_lifted_141 rfl ?_
        refine z_il8 g dX4_lifted_143 ?_
        refine z_if_lt_f (tgt := 242) g dX4_lifted_145 (by decide) (nI_pos (by omega)) ?_
        refine z_al0 g dX4_lifted_148 ?_
        refine zg4_10 g q1252 (Or.inl rfl) (by assumption) dX4_lifted_149 (by assumption) ?_
        refine z_il8 g dX4_lifted_152 ?_
        refine z_bipush g dX4_lifted_154 zkb_8 ?_
        first | with_reducible refine z_iremN g dX4_lifted_156 (by omega) (by omega) (by omega) ?_ | refine z_irem g dX4_lifted_156 (by decide +kernel) ?_
        refine z_iald (k := 0) g rfl (by assumption) (by omega) (by omega) dX4_lifted_157 ?_
        refine z_top (show _ = envF (I (t + 1)) p q (m % 8) by rw [zp_n (by omega), zp_s]; exact he _ hm8) ?_
        refine z_is9 g dX4_lifted_158 rfl ?_
        refine z_il8 g dX4_lifted_160 ?_
        refine z_bipush g dX4_lifted_162 zkb_8 ?_
        first | with_reducible refine z_idivN g dX4_lifted_164 (by omega) (by omega) (by omega) ?_ | refine z_idiv g dX4_lifted_164 (by decide +kernel) ?_
        refine z_iconst g dX4_lifted_165 zki_4 ?_
        first | with_reducible refine z_iremN g dX4_lifted_166 (by omega) (by omega) (by omega) ?_ | refine z_irem g dX4_lifted_166 (by decide +kernel) ?_
        refine z_is10 g dX4_lifted_167 rfl ?_
        refine z_il8 g dX4_lifted_169 ?_
        refine z_bipush g dX4_lifted_171 zkb_32 ?_
        first | with_reducible refine z_idivN g dX4_lifted_173 (by omega) (by omega) (by omega) ?_ | refine z_idiv g dX4_lifted_173 (by decide +kernel) ?_
        refine z_is11 g dX4_lifted_174 rfl ?_
        refine z_al0 g dX4_lifted_176 ?_
        refine zg4_11 g q1253 (Or.inl rfl) (by assumption) dX4_lifted_177 (by assumption) ?_
        refine z_il6 g dX4_lifted_180 ?_
        refine z_il10 g dX4_lifted_182 ?_
        refine z_if_ne (tgt := 202) g dX4_lifted_184 (by decide) (fun c184 => ?_) (fun c184 => ?_)
        · skip
          have h184 : ¬ m / 8 % 4 = 0 := fun q => c184 (by rw [q]; rfl)
          refine z_il10 g dX4_lifted_202 ?_
          refine z_iconst g dX4_lifted_204 zki_1 ?_
          refine z_icmp_ne (tgt := 223) g dX4_lifted_205 (by decide) (fun c205 => ?_) (fun c205 => ?_)
          · skip
            have h205 : ¬ m / 8 % 4 = 1 := fun q => c205 (by rw [q])
            refine z_il9 g dX4_lifted_223 ?_
            refine z_il11 g dX4_lifted_225 ?_
            refine z_icmp_le (tgt := 234) g dX4_lifted_227 (by decide) (fun c227 => ?_) (fun c227 => ?_)
            · skip
              have c227 := Int32.not_lt.mpr c227
              refine z_iconst g dX4_lifted_234 zki_0 ?_
              refine z_top (show _ = zb (factB (envF (I (t + 1)) p q) m) by simp [factB, zb, *]) ?_
              refine z_zast (k := 4) g rfl (by decide) (by assumption) (by omega) (by omega) (zfit_b _).1 dX4_lifted_235 ?_
              first | with_reducible refine z_inc6 g dX4_lifted_236 (zinc1 _) rfl ?_ | refine z_inc6 g dX4_lifted_236 rfl rfl ?_
              refine z_goto (tgt := 404) g dX4_lifted_239 (by decide) ?_
              try simp only [zp_zp, zp_s]
              first | with_reducible refine z_inc7 g dX4_lifted_404 (zinc1 _) rfl ?_ | refine z_inc7 g dX4_lifted_404 rfl rfl ?_
              refine z_goto (tgt := 124) g dX4_lifted_407 (by decide) ?_
              exact z_sub (by simp [zsub]) (ih (i + 1) (top + 1) sum (zp tr top (zb (factB (envF (I (t + 1)) p q) m))) (factB (envF (I (t + 1)) p q) m :: st) hl2 (by omega) hdp (by simp [htop]) (by omega) ⟨by rw [htop, zp_s], stk_put (by omega) hst⟩ (by rw [← hres]; unfold runF; rw [List.foldl_cons, hst2]))
            · skip
              have c227 := Int32.not_le.mp c227
              refine z_iconst g dX4_lifted_230 zki_1 ?_
              refine z_goto (tgt := 235) g dX4_lifted_231 (by decide) ?_
              refine z_top (show _ = zb (factB (envF (I (t + 1)) p q) m) by simp [factB, zb, *]) ?_
              refine z_zast (k := 4) g rfl (by decide) (by assumption) (by omega) (by omega) (zfit_b _).1 dX4_lifted_235 ?_
              first | with_reducible refine z_inc6 g dX4_lifted_236 (zinc1 _) rfl ?_ | refine z_inc6 g dX4_lifted_236 rfl rfl ?_
              refine z_goto (tgt := 404) g dX4_lifted_239 (by decide) ?_
              try simp only [zp_zp, zp_s]
              first | with_reducible refine z_inc7 g dX4_lifted_404 (zinc1 _) rfl ?_ | refine z_inc7 g dX4_lifted_404 rfl rfl ?_
              refine z_goto (tgt := 124) g dX4_lifted_407 (by decide) ?_
              exact z_sub (by simp [zsub]) (ih (i + 1) (top + 1) sum (zp tr top (zb (factB (envF (I (t + 1)) p q) m))) (factB (envF (I (t + 1)) p q) m :: st) hl2 (by omega) hdp (by simp [htop]) (by omega) ⟨by rw [htop, zp_s], stk_put (by omega) hst⟩ (by rw [← hres]; unfold runF; rw [List.foldl_cons, hst2]))
          · skip
            have h205 : m / 8 % 4 = 1 := (nI_eq (b := 1) (by omega) (by decide)).mp c205
            refine z_il9 g dX4_lifted_208 ?_
            refine z_il11 g dX4_lifted_210 ?_
            refine z_icmp_ne (tgt := 219) g dX4_lifted_212 (by decide) (fun c212 => ?_) (fun c212 => ?_)
            · skip
              refine z_iconst g dX4_lifted_219 zki_0 ?_
              refine z_goto (tgt := 235) g dX4_lifted_220 (by decide) ?_
              refine z_top (show _ = zb (factB (envF (I (t + 1)) p q) m) by simp [factB, zb, *]) ?_
              refine z_zast (k := 4) g rfl (by decide) (by assumption) (by omega) (by omega) (zfit_b _).1 dX4_lifted_235 ?_
              first | with_reducible refine z_inc6 g dX4_lifted_236 (zinc1 _) rfl ?_ | refine z_inc6 g dX4_lifted_236 rfl rfl ?_
              refine z_goto (tgt := 404) g dX4_lifted_239 (by decide) ?_
              try simp only [zp_zp, zp_s]
              first | with_reducible refine z_inc7 g dX4_lifted_404 (zinc1 _) rfl ?_ | refine z_inc7 g dX4_lifted_404 rfl rfl ?_
              refine z_goto (tgt := 124) g dX4_lifted_407 (by decide) ?_
              exact z_sub (by simp [zsub]) (ih (i + 1) (top + 1) sum (zp tr top (zb (factB (envF (I (t + 1)) p q) m))) (factB (envF (I (t + 1)) p q) m :: st) hl2 (by omega) hdp (by simp [htop]) (by omega) ⟨by rw [htop, zp_s], stk_put (by omega) hst⟩ (by rw [← hres]; unfold runF; rw [List.foldl_cons, hst2]))
            · skip
              refine z_iconst g dX4_lifted_215 zki_1 ?_
              refine z_goto (tgt := 235) g dX4_lifted_216 (by decide) ?_
              refine z_top (show _ = zb (factB (envF (I (t + 1)) p q) m) by simp [factB, zb, *]) ?_
              refine z_zast (k := 4) g rfl (by decide) (by assumption) (by omega) (by omega) (zfit_b _).1 dX4_lifted_235 ?_
              first | with_reducible refine z_inc6 g dX4_lifted_236 (zinc1 _) rfl ?_ | refine z_inc6 g dX4_lifted_236 rfl rfl ?_
              refine z_goto (tgt := 404) g dX4_lifted_239 (by decide) ?_
              try simp only [zp_zp, zp_s]
              first | with_reducible refine z_inc7 g dX4_lifted_404 (zinc1 _) rfl ?_ | refine z_inc7 g dX4_lifted_404 rfl rfl ?_
              refine z_goto (tgt := 124) g dX4_lifted_407 (by decide) ?_
              exact z_sub (by simp [zsub]) (ih (i + 1) (top + 1) sum (zp tr top (zb (factB (envF (I (t + 1)) p q) m))) (factB (envF (I (t + 1)) p q) m :: st) hl2 (by omega) hdp (by simp [htop]) (by omega) ⟨by rw [htop, zp_s], stk_put (by omega) hst⟩ (by rw [← hres]; unfold runF; rw [List.foldl_cons, hst2]))
        · skip
          have h184 : m / 8 % 4 = 0 := (nI_eq (b := 0) (by omega) (by decide)).mp c184
          refine z_il9 g dX4_lifted_187 ?_
          refine z_il11 g dX4_lifted_189 ?_
          refine z_icmp_ge (tgt := 198) g dX4_lifted_191 (by decide) (fun c191 => ?_) (fun c191 => ?_)
          · skip
            have c191 := Int32.not_lt.mpr c191
            refine z_iconst g dX4_lifted_198 zki_0 ?_
            refine z_goto (tgt := 235) g dX4_lifted_199 (by decide) ?_
            refine z_top (show _ = zb (factB (envF (I (t + 1)) p q) m) by simp [factB, zb, *]) ?_
            refine z_zast (k := 4) g rfl (by decide) (by assumption) (by omega) (by omega) (zfit_b _).1 dX4_lifted_235 ?_
            first | with_reducible refine z_inc6 g dX4_lifted_236 (zinc1 _) rfl ?_ | refine z_inc6 g dX4_lifted_236 rfl rfl ?_
            refine z_goto (tgt := 404) g dX4_lifted_239 (by decide) ?_
            try simp only [zp_zp, zp_s]
            first | with_reducible refine z_inc7 g dX4_lifted_404 (zinc1 _) rfl ?_ | refine z_inc7 g dX4_lifted_404 rfl rfl ?_
            refine z_goto (tgt := 124) g dX4_lifted_407 (by decide) ?_
            exact z_sub (by simp [zsub]) (ih (i + 1) (top + 1) sum (zp tr top (zb (factB (envF (I (t + 1)) p q) m))) (factB (envF (I (t + 1)) p q) m :: st) hl2 (by omega) hdp (by simp [htop]) (by omega) ⟨by rw [htop, zp_s], stk_put (by omega) hst⟩ (by rw [← hres]; unfold runF; rw [List.foldl_cons, hst2]))
          · skip
            have c191 := Int32.not_le.mp c191
            refine z_iconst g dX4_lifted_194 zki_1 ?_
            refine z_goto (tgt := 235) g dX4_lifted_195 (by decide) ?_
            refine z_top (show _ = zb (factB (envF (I (t + 1)) p q) m) by simp [factB, zb, *]) ?_
            refine z_zast (k := 4) g rfl (by decide) (by assumption) (by omega) (by omega) (zfit_b _).1 dX4_lifted_235 ?_
            first | with_reducible refine z_inc6 g dX4_lifted_236 (zinc1 _) rfl ?_ | refine z_inc6 g dX4_lifted_236 rfl rfl ?_
            refine z_goto (tgt := 404) g dX4_lifted_239 (by decide) ?_
            try simp only [zp_zp, zp_s]
            first | with_reducible refine z_inc7 g dX4_lifted_404 (zinc1 _) rfl ?_ | refine z_inc7 g dX4_lifted_404 rfl rfl ?_
            refine z_goto (tgt := 124) g dX4_lifted_407 (by decide) ?_
            exact z_sub (by simp [zsub]) (ih (i + 1) (top + 1) sum (zp tr top (zb (factB (envF (I (t + 1)) p q) m))) (factB (envF (I (t + 1)) p q) m :: st) hl2 (by omega) hdp (by simp [htop]) (by omega) ⟨by rw [htop, zp_s], stk_put (by omega) hst⟩ (by rw [← hres]; unfold runF; rw [List.foldl_cons, hst2]))
      · skip
        subst hm
        obtain ⟨b, r, rfl⟩ : ∃ b r, st = b :: r := by
          cases st with
          | nil => simp at htop; omega
          | cons b r => exact ⟨b, r, rfl⟩
        obtain rfl : top = r.length + 1 := htop
        refine z_il7 g dX4_lifted_124 ?_
        refine z_il5 g dX4_lifted_126 ?_
        refine z_il4 g dX4_lifted_128 ?_
        first | with_reducible refine z_iaddN g dX4_lifted_130 ?_ | refine z_iadd g dX4_lifted_130 ?_
        refine z_icmp_ge_f (tgt := 410) g dX4_lifted_131 (by decide) (nI_ge (by omega) (by omega)) ?_
        refine z_al0 g dX4_lifted_134 ?_
        refine zg4_1 g q1243 (Or.inl rfl) (by assumption) dX4_lifted_135 (by assumption) ?_
        refine z_il7 g dX4_lifted_138 ?_
        refine z_iald (k := 0) g rfl (by assumption) (by omega) (by omega) dX4_lifted_140 ?_
        refine z_top ((show _ = I (t + 1) i by rw [zp_n (by omega), zp_n (by omega)]).trans hs) ?_
        refine z_is8 g dX4_lifted_141 rfl ?_
        refine z_il8 g dX4_lifted_143 ?_
        refine z_if_lt_t (tgt := 242) g dX4_lifted_145 (by decide) (by decide +kernel) ?_
        refine z_il8 g dX4_lifted_242 ?_
        refine z_iconst g dX4_lifted_244 zki_m1 ?_
        refine z_icmp_ne_f (tgt := 277) g dX4_lifted_245 (by decide) (rfl) ?_
        refine z_al0 g dX4_lifted_248 ?_
        refine zg4_11 g q1253 (Or.inl rfl) (by assumption) dX4_lifted_249 (by assumption) ?_
        refine z_il6 g dX4_lifted_252 ?_
        refine z_iconst g dX4_lifted_254 zki_1 ?_
        first | with_reducible refine z_isubN g dX4_lifted_255 (by omega) ?_ | refine z_isub g dX4_lifted_255 ?_
        refine z_al0 g dX4_lifted_256 ?_
        refine zg4_11 g q1253 (Or.inl rfl) (by assumption) dX4_lifted_257 (by assumption) ?_
        refine z_il6 g dX4_lifted_260 ?_
        refine z_iconst g dX4_lifted_262 zki_1 ?_
        first | with_reducible refine z_isubN g dX4_lifted_263 (by omega) ?_ | refine z_isub g dX4_lifted_263 ?_
        refine z_zald (k := 4) g rfl (by assumption) (by omega) (by omega) dX4_lifted_264 ?_
        refine z_top (show _ = zb b by rw [zp_s]; exact hst.1) ?_
        refine z_ifb_ne (tgt := 272) g dX4_lifted_265 (by decide) (fun c265 => ?_) (fun c265 => ?_)
        · skip
          refine z_iconst g dX4_lifted_272 zki_0 ?_
          refine z_top (show _ = zb (!b) by simp [zb, *]) ?_
          refine z_zast (k := 4) g rfl (by decide) (by assumption) (by omega) (by omega) (zfit_b _).1 dX4_lifted_273 ?_
          refine z_goto (tgt := 404) g dX4_lifted_274 (by decide) ?_
          try simp only [zp_zp, zp_s]
          first | with_reducible refine z_inc7 g dX4_lifted_404 (zinc1 _) rfl ?_ | refine z_inc7 g dX4_lifted_404 rfl rfl ?_
          refine z_goto (tgt := 124) g dX4_lifted_407 (by decide) ?_
          exact z_sub (by simp [zsub]) (ih (i + 1) (r.length + 1) sum (zp tr r.length (zb (!b))) ((!b) :: r) hl2 (by omega) hdp rfl (by omega) ⟨zp_s, stk_put (Nat.le_refl _) hst.2⟩ (by rw [← hres]; unfold runF; rw [List.foldl_cons, stepF_N]))
        · skip
          refine z_iconst g dX4_lifted_268 zki_1 ?_
          refine z_goto (tgt := 273) g dX4_lifted_269 (by decide) ?_
          refine z_top (show _ = zb (!b) by simp [zb, *]) ?_
          refine z_zast (k := 4) g rfl (by decide) (by assumption) (by omega) (by omega) (zfit_b _).1 dX4_lifted_273 ?_
          refine z_goto (tgt := 404) g dX4_lifted_274 (by decide) ?_
          try simp only [zp_zp, zp_s]
          first | with_reducible refine z_inc7 g dX4_lifted_404 (zinc1 _) rfl ?_ | refine z_inc7 g dX4_lifted_404 rfl rfl ?_
          refine z_goto (tgt := 124) g dX4_lifted_407 (by decide) ?_
          exact z_sub (by simp [zsub]) (ih (i + 1) (r.length + 1) sum (zp tr r.length (zb (!b))) ((!b) :: r) hl2 (by omega) hdp rfl (by omega) ⟨zp_s, stk_put (Nat.le_refl _) hst.2⟩ (by rw [← hres]; unfold runF; rw [List.foldl_cons, stepF_N]))
      · skip
        obtain ⟨b2, b1, r, rfl⟩ : ∃ b2 b1 r, st = b2 :: b1 :: r := by
          cases st with
          | nil => simp at htop; omega
          | cons b2 r =>
            cases r with
            | nil => simp at htop; omega
            | cons b1 r => exact ⟨b2, b1, r, rfl⟩
        obtain rfl : top = r.length + 2 := htop
        have hst2 := stepF_B (env := (envF (I (t + 1)) p q)) (b1 := b1) (b2 := b2) (r := r) (x := sum) hm
        refine z_il7 g dX4_lifted_124 ?_
        refine z_il5 g dX4_lifted_126 ?_
        refine z_il4 g dX4_lifted_128 ?_
        first | with_reducible refine z_iaddN g dX4_lifted_130 ?_ | refine z_iadd g dX4_lifted_130 ?_
        refine z_icmp_ge_f (tgt := 410) g dX4_lifted_131 (by decide) (nI_ge (by omega) (by omega)) ?_
        refine z_al0 g dX4_lifted_134 ?_
        refine zg4_1 g q1243 (Or.inl rfl) (by assumption) dX4_lifted_135 (by assumption) ?_
        refine z_il7 g dX4_lifted_138 ?_
        refine z_iald (k := 0) g rfl (by assumption) (by omega) (by omega) dX4_lifted_140 ?_
        refine z_top ((show _ = I (t + 1) i by rw [zp_n (by omega), zp_n (by omega)]).trans hs) ?_
        refine z_is8 g dX4_lifted_141 rfl ?_
        refine z_il8 g dX4_lifted_143 ?_
        refine z_if_lt_t (tgt := 242) g dX4_lifted_145 (by decide) (by rcases hm with rfl | rfl <;> decide +kernel) ?_
        refine z_il8 g dX4_lifted_242 ?_
        refine z_iconst g dX4_lifted_244 zki_m1 ?_
        refine z_icmp_ne_t (tgt := 277) g dX4_lifted_245 (by decide) (by rcases hm with rfl | rfl <;> decide +kernel) ?_
        refine z_il8 g dX4_lifted_277 ?_
        refine z_bipush g dX4_lifted_279 zkb_m10 ?_
        refine z_icmp_le_f (tgt := 363) g dX4_lifted_281 (by decide) (by rcases hm with rfl | rfl <;> decide +kernel) ?_
        first | with_reducible refine z_inc6 g dX4_lifted_284 (zdec1 _) rfl ?_ | refine z_inc6 g dX4_lifted_284 rfl rfl ?_
        refine z_al0 g dX4_lifted_287 ?_
        refine zg4_11 g q1253 (Or.inl rfl) (by assumption) dX4_lifted_288 (by assumption) ?_
        refine z_il6 g dX4_lifted_291 ?_
        refine z_iconst g dX4_lifted_293 zki_1 ?_
        first | with_reducible refine z_isubN g dX4_lifted_294 (by omega) ?_ | refine z_isub g dX4_lifted_294 ?_
        refine z_il8 g dX4_lifted_295 ?_
        refine z_bipush g dX4_lifted_297 zkb_m2 ?_
        refine z_icmp_ne (tgt := 332) g dX4_lifted_299 (by decide) (fun c299 => ?_) (fun c299 => ?_)
        · skip
          refine z_al0 g dX4_lifted_332 ?_
          refine zg4_11 g q1253 (Or.inl rfl) (by assumption) dX4_lifted_333 (by assumption) ?_
          refine z_il6 g dX4_lifted_336 ?_
          refine z_iconst g dX4_lifted_338 zki_1 ?_
          first | with_reducible refine z_isubN g dX4_lifted_339 (by omega) ?_ | refine z_isub g dX4_lifted_339 ?_
          refine z_zald (k := 4) g rfl (by assumption) (by omega) (by omega) dX4_lifted_340 ?_
          refine z_top (show _ = zb b1 by rw [zp_s]; exact hst.2.1) ?_
          refine z_ifb_ne (tgt := 354) g dX4_lifted_341 (by decide) (fun c341 => ?_) (fun c341 => ?_)
          · skip
            refine z_iconst g dX4_lifted_354 zki_1 ?_
            refine z_goto (tgt := 359) g dX4_lifted_355 (by decide) ?_
            refine z_top (show _ = zb (if s = -2 then b1 && b2 else b1 || b2) by simp [zb, *]) ?_
            refine z_zast (k := 4) g rfl (by decide) (by assumption) (by omega) (by omega) (zfit_b _).1 dX4_lifted_359 ?_
            refine z_goto (tgt := 404) g dX4_lifted_360 (by decide) ?_
            try simp only [zp_zp, zp_s]
            first | with_reducible refine z_inc7 g dX4_lifted_404 (zinc1 _) rfl ?_ | refine z_inc7 g dX4_lifted_404 rfl rfl ?_
            refine z_goto (tgt := 124) g dX4_lifted_407 (by decide) ?_
            exact z_sub (by simp [zsub]) (ih (i + 1) (r.length + 1) sum (zp tr r.length (zb (if s = -2 then b1 && b2 else b1 || b2))) ((if s = -2 then b1 && b2 else b1 || b2) :: r) hl2 (by omega) hdp rfl (by omega) ⟨zp_s, stk_put (Nat.le_refl _) hst.2.2⟩ (by rw [← hres]; unfold runF; rw [List.foldl_cons, hst2]))
          · skip
            refine z_al0 g dX4_lifted_344 ?_
            refine zg4_11 g q1253 (Or.inl rfl) (by assumption) dX4_lifted_345 (by assumption) ?_
            refine z_il6 g dX4_lifted_348 ?_
            refine z_zald (k := 4) g rfl (by assumption) (by omega) (by omega) dX4_lifted_350 ?_
            refine z_top (show _ = zb b2 by rw [zp_s]; exact hst.1) ?_
            refine z_ifb_eq (tgt := 358) g dX4_lifted_351 (by decide) (fun c351 => ?_) (fun c351 => ?_)
            · skip
              refine z_iconst g dX4_lifted_358 zki_0 ?_
              refine z_top (show _ = zb (if s = -2 then b1 && b2 else b1 || b2) by simp [zb, *]) ?_
              refine z_zast (k := 4) g rfl (by decide) (by assumption) (by omega) (by omega) (zfit_b _).1 dX4_lifted_359 ?_
              refine z_goto (tgt := 404) g dX4_lifted_360 (by decide) ?_
              try simp only [zp_zp, zp_s]
              first | with_reducible refine z_inc7 g dX4_lifted_404 (zinc1 _) rfl ?_ | refine z_inc7 g dX4_lifted_404 rfl rfl ?_
              refine z_goto (tgt := 124) g dX4_lifted_407 (by decide) ?_
              exact z_sub (by simp [zsub]) (ih (i + 1) (r.length + 1) sum (zp tr r.length (zb (if s = -2 then b1 && b2 else b1 || b2))) ((if s = -2 then b1 && b2 else b1 || b2) :: r) hl2 (by omega) hdp rfl (by omega) ⟨zp_s, stk_put (Nat.le_refl _) hst.2.2⟩ (by rw [← hres]; unfold runF; rw [List.foldl_cons, hst2]))
            · skip
              refine z_iconst g dX4_lifted_354 zki_1 ?_
              refine z_goto (tgt := 359) g dX4_lifted_355 (by decide) ?_
              refine z_top (show _ = zb (if s = -2 then b1 && b2 else b1 || b2) by simp [zb, *]) ?_
              refine z_zast (k := 4) g rfl (by decide) (by assumption) (by omega) (by omega) (zfit_b _).1 dX4_lifted_359 ?_
              refine z_goto (tgt := 404) g dX4_lifted_360 (by decide) ?_
              try simp only [zp_zp, zp_s]
              first | with_reducible refine z_inc7 g dX4_lifted_404 (zinc1 _) rfl ?_ | refine z_inc7 g dX4_lifted_404 rfl rfl ?_
              refine z_goto (tgt := 124) g dX4_lifted_407 (by decide) ?_
              exact z_sub (by simp [zsub]) (ih (i + 1) (r.length + 1) sum (zp tr r.length (zb (if s = -2 then b1 && b2 else b1 || b2))) ((if s = -2 then b1 && b2 else b1 || b2) :: r) hl2 (by omega) hdp rfl (by omega) ⟨zp_s, stk_put (Nat.le_refl _) hst.2.2⟩ (by rw [← hres]; unfold runF; rw [List.foldl_cons, hst2]))
        · skip
          refine z_al0 g dX4_lifted_302 ?_
          refine zg4_11 g q1253 (Or.inl rfl) (by assumption) dX4_lifted_303 (by assumption) ?_
          refine z_il6 g dX4_lifted_306 ?_
          refine z_iconst g dX4_lifted_308 zki_1 ?_
          first | with_reducible refine z_isubN g dX4_lifted_309 (by omega) ?_ | refine z_isub g dX4_lifted_309 ?_
          refine z_zald (k := 4) g rfl (by assumption) (by omega) (by omega) dX4_lifted_310 ?_
          refine z_top (show _ = zb b1 by rw [zp_s]; exact hst.2.1) ?_
          refine z_ifb_eq (tgt := 328) g dX4_lifted_311 (by decide) (fun c311 => ?_) (fun c311 => ?_)
          · skip
            refine z_iconst g dX4_lifted_328 zki_0 ?_
            refine z_goto (tgt := 359) g dX4_lifted_329 (by decide) ?_
            refine z_top (show _ = zb (if s = -2 then b1 && b2 else b1 || b2) by simp [zb, *]) ?_
            refine z_zast (k := 4) g rfl (by decide) (by assumption) (by omega) (by omega) (zfit_b _).1 dX4_lifted_359 ?_
            refine z_goto (tgt := 404) g dX4_lifted_360 (by decide) ?_
            try simp only [zp_zp, zp_s]
            first | with_reducible refine z_inc7 g dX4_lifted_404 (zinc1 _) rfl ?_ | refine z_inc7 g dX4_lifted_404 rfl rfl ?_
            refine z_goto (tgt := 124) g dX4_lifted_407 (by decide) ?_
            exact z_sub (by simp [zsub]) (ih (i + 1) (r.length + 1) sum (zp tr r.length (zb (if s = -2 then b1 && b2 else b1 || b2))) ((if s = -2 then b1 && b2 else b1 || b2) :: r) hl2 (by omega) hdp rfl (by omega) ⟨zp_s, stk_put (Nat.le_refl _) hst.2.2⟩ (by rw [← hres]; unfold runF; rw [List.foldl_cons, hst2]))
          · skip
            refine z_al0 g dX4_lifted_314 ?_
            refine zg4_11 g q1253 (Or.inl rfl) (by assumption) dX4_lifted_315 (by assumption) ?_
            refine z_il6 g dX4_lifted_318 ?_
            refine z_zald (k := 4) g rfl (by assumption) (by omega) (by omega) dX4_lifted_320 ?_
            refine z_top (show _ = zb b2 by rw [zp_s]; exact hst.1) ?_
            refine z_ifb_eq (tgt := 328) g dX4_lifted_321 (by decide) (fun c321 => ?_) (fun c321 => ?_)
            · skip
              refine z_iconst g dX4_lifted_328 zki_0 ?_
              refine z_goto (tgt := 359) g dX4_lifted_329 (by decide) ?_
              refine z_top (show _ = zb (if s = -2 then b1 && b2 else b1 || b2) by simp [zb, *]) ?_
              refine z_zast (k := 4) g rfl (by decide) (by assumption) (by omega) (by omega) (zfit_b _).1 dX4_lifted_359 ?_
              refine z_goto (tgt := 404) g dX4_lifted_360 (by decide) ?_
              try simp only [zp_zp, zp_s]
              first | with_reducible refine z_inc7 g dX4_lifted_404 (zinc1 _) rfl ?_ | refine z_inc7 g dX4_lifted_404 rfl rfl ?_
              refine z_goto (tgt := 124) g dX4_lifted_407 (by decide) ?_
              exact z_sub (by simp [zsub]) (ih (i + 1) (r.length + 1) sum (zp tr r.length (zb (if s = -2 then b1 && b2 else b1 || b2))) ((if s = -2 then b1 && b2 else b1 || b2) :: r) hl2 (by omega) hdp rfl (by omega) ⟨zp_s, stk_put (Nat.le_refl _) hst.2.2⟩ (by rw [← hres]; unfold runF; rw [List.foldl_cons, hst2]))
            · skip
              refine z_iconst g dX4_lifted_324 zki_1 ?_
              refine z_goto (tgt := 359) g dX4_lifted_325 (by decide) ?_
              refine z_top (show _ = zb (if s = -2 then b1 && b2 else b1 || b2) by simp [zb, *]) ?_
              refine z_zast (k := 4) g rfl (by decide) (by assumption) (by omega) (by omega) (zfit_b _).1 dX4_lifted_359 ?_
              refine z_goto (tgt := 404) g dX4_lifted_360 (by decide) ?_
              try simp only [zp_zp, zp_s]
              first | with_reducible refine z_inc7 g dX4_lifted_404 (zinc1 _) rfl ?_ | refine z_inc7 g dX4_lifted_404 rfl rfl ?_
              refine z_goto (tgt := 124) g dX4_lifted_407 (by decide) ?_
              exact z_sub (by simp [zsub]) (ih (i + 1) (r.length + 1) sum (zp tr r.length (zb (if s = -2 then b1 && b2 else b1 || b2))) ((if s = -2 then b1 && b2 else b1 || b2) :: r) hl2 (by omega) hdp rfl (by omega) ⟨zp_s, stk_put (Nat.le_refl _) hst.2.2⟩ (by rw [← hres]; unfold runF; rw [List.foldl_cons, hst2]))
      · skip
        obtain ⟨b, rfl⟩ : ∃ b, st = [b] := by
          cases st with
          | nil => simp at htop; omega
          | cons b r =>
            cases r with
            | nil => exact ⟨b, rfl⟩
            | cons b1 r => simp at htop; omega
        obtain rfl : top = 1 := htop
        have hst2 := stepF_L (env := (envF (I (t + 1)) p q)) (b := b) (x := sum) hm
        have hneg : ¬ (-10 : Int32) < s := fun q => Int32.lt_irrefl (Int32.lt_of_lt_of_le q hm)
        refine z_il7 g dX4_lifted_124 ?_
        refine z_il5 g dX4_lifted_126 ?_
        refine z_il4 g dX4_lifted_128 ?_
        first | with_reducible refine z_iaddN g dX4_lifted_130 ?_ | refine z_iadd g dX4_lifted_130 ?_
        refine z_icmp_ge_f (tgt := 410) g dX4_lifted_131 (by decide) (nI_ge (by omega) (by omega)) ?_
        refine z_al0 g dX4_lifted_134 ?_
        refine zg4_1 g q1243 (Or.inl rfl) (by assumption) dX4_lifted_135 (by assumption) ?_
        refine z_il7 g dX4_lifted_138 ?_
        refine z_iald (k := 0) g rfl (by assumption) (by omega) (by omega) dX4_lifted_140 ?_
        refine z_top ((show _ = I (t + 1) i by rw [zp_n (by omega), zp_n (by omega)]).trans hs) ?_
        refine z_is8 g dX4_lifted_141 rfl ?_
        refine z_il8 g dX4_lifted_143 ?_
        refine z_if_lt_t (tgt := 242) g dX4_lifted_145 (by decide) (Int32.lt_of_le_of_lt hm (by decide +kernel)) ?_
        refine z_il8 g dX4_lifted_242 ?_
        refine z_iconst g dX4_lifted_244 zki_m1 ?_
        refine z_icmp_ne_t (tgt := 277) g dX4_lifted_245 (by decide) (fun q => hneg (by rw [q]; decide +kernel)) ?_
        refine z_il8 g dX4_lifted_277 ?_
        refine z_bipush g dX4_lifted_279 zkb_m10 ?_
        refine z_icmp_le_t (tgt := 363) g dX4_lifted_281 (by decide) (hm) ?_
        refine z_iconst g dX4_lifted_363 zki_0 ?_
        refine z_is6 g dX4_lifted_364 rfl ?_
        refine z_il3 g dX4_lifted_366 ?_
        refine z_al0 g dX4_lifted_367 ?_
        refine zg4_11 g q1253 (Or.inl rfl) (by assumption) dX4_lifted_368 (by assumption) ?_
        refine z_iconst g dX4_lifted_371 zki_0 ?_
        refine z_zald (k := 4) g rfl (by assumption) (by omega) (by omega) dX4_lifted_372 ?_
        refine z_top (show _ = zb b by rw [zp_s]; exact hst.1) ?_
        refine z_ifb_ne (tgt := 380) g dX4_lifted_373 (by decide) (fun c373 => ?_) (fun c373 => ?_)
        · skip
          refine z_il8 g dX4_lifted_380 ?_
          refine z_sipush g dX4_lifted_382 zks_m200 ?_
          refine z_icmp_le (tgt := 396) g dX4_lifted_385 (by decide) (fun c385 => ?_) (fun c385 => ?_)
          · skip
            have c385 := Int32.not_lt.mpr c385
            refine z_il8 g dX4_lifted_396 ?_
            refine z_sipush g dX4_lifted_398 zks_m200 ?_
            first | with_reducible refine z_isubN g dX4_lifted_401 (by omega) ?_ | refine z_isub g dX4_lifted_401 ?_
            refine z_top (show _ = (if b = false then nI 0 else if (-200 : Int32) < s then (-10) - s else s - (-200)) by simp [*]) ?_
            first | with_reducible refine z_iaddN g dX4_lifted_402 ?_ | refine z_iadd g dX4_lifted_402 ?_
            refine z_is3 g dX4_lifted_403 rfl ?_
            try simp only [zp_zp, zp_s]
            first | with_reducible refine z_inc7 g dX4_lifted_404 (zinc1 _) rfl ?_ | refine z_inc7 g dX4_lifted_404 rfl rfl ?_
            refine z_goto (tgt := 124) g dX4_lifted_407 (by decide) ?_
            exact z_sub (by simp [zsub]) (ih (i + 1) 0 (sum + (if b = false then nI 0 else if (-200 : Int32) < s then (-10) - s else s - (-200))) tr [] hl2 (by omega) hdp rfl (by omega) trivial (by rw [← hres]; unfold runF; rw [List.foldl_cons, hst2]))
          · skip
            have c385 := Int32.not_le.mp c385
            refine z_bipush g dX4_lifted_388 zkb_m10 ?_
            refine z_il8 g dX4_lifted_390 ?_
            first | with_reducible refine z_isubN g dX4_lifted_392 (by omega) ?_ | refine z_isub g dX4_lifted_392 ?_
            refine z_goto (tgt := 402) g dX4_lifted_393 (by decide) ?_
            refine z_top (show _ = (if b = false then nI 0 else if (-200 : Int32) < s then (-10) - s else s - (-200)) by simp [*]) ?_
            first | with_reducible refine z_iaddN g dX4_lifted_402 ?_ | refine z_iadd g dX4_lifted_402 ?_
            refine z_is3 g dX4_lifted_403 rfl ?_
            try simp only [zp_zp, zp_s]
            first | with_reducible refine z_inc7 g dX4_lifted_404 (zinc1 _) rfl ?_ | refine z_inc7 g dX4_lifted_404 rfl rfl ?_
            refine z_goto (tgt := 124) g dX4_lifted_407 (by decide) ?_
            exact z_sub (by simp [zsub]) (ih (i + 1) 0 (sum + (if b = false then nI 0 else if (-200 : Int32) < s then (-10) - s else s - (-200))) tr [] hl2 (by omega) hdp rfl (by omega) trivial (by rw [← hres]; unfold runF; rw [List.foldl_cons, hst2]))
        · skip
          refine z_iconst g dX4_lifted_376 zki_0 ?_
          refine z_goto (tgt := 402) g dX4_lifted_377 (by decide) ?_
          refine z_top (show _ = (if b = false then nI 0 else if (-200 : Int32) < s then (-10) - s else s - (-200)) by simp [*]) ?_
          first | with_reducible refine z_iaddN g dX4_lifted_402 ?_ | refine z_iadd g dX4_lifted_402 ?_
          refine z_is3 g dX4_lifted_403 rfl ?_
          try simp only [zp_zp, zp_s]
          first | with_reducible refine z_inc7 g dX4_lifted_404 (zinc1 _) rfl ?_ | refine z_inc7 g dX4_lifted_404 rfl rfl ?_
          refine z_goto (tgt := 124) g dX4_lifted_407 (by decide) ?_
          exact z_sub (by simp [zsub]) (ih (i + 1) 0 (sum + (if b = false then nI 0 else if (-200 : Int32) < s then (-10) - s else s - (-200))) tr [] hl2 (by omega) hdp rfl (by omega) trivial (by rw [← hres]; unfold runF; rw [List.foldl_cons, hst2]))
  rcases hH with hH | ⟨h, hh, hH⟩
  · skip
    refine z_al0 g dX4_lifted_0 ?_
    refine zg4_10 g q1252 (Or.inl rfl) (by assumption) dX4_lifted_1 (by assumption) ?_
    refine z_iconst g dX4_lifted_4 zki_0 ?_
    refine z_il1 g dX4_lifted_5 ?_
    refine z_iast (k := 0) g rfl (by decide) (by assumption) (by omega) (by omega) dX4_lifted_6 ?_
    refine z_al0 g dX4_lifted_7 ?_
    refine zg4_10 g q1252 (Or.inl rfl) (by assumption) dX4_lifted_8 (by assumption) ?_
    refine z_iconst g dX4_lifted_11 zki_1 ?_
    refine z_al0 g dX4_lifted_12 ?_
    refine zg4_1 g q1243 (Or.inl rfl) (by assumption) dX4_lifted_13 (by assumption) ?_
    refine z_bipush g dX4_lifted_16 zkb_12 ?_
    refine z_il1 g dX4_lifted_18 ?_
    first | with_reducible refine z_iaddN g dX4_lifted_19 ?_ | refine z_iadd g dX4_lifted_19 ?_
    refine z_iald (k := 0) g rfl (by assumption) (by omega) (by omega) dX4_lifted_20 ?_
    refine z_iast (k := 0) g rfl (by decide) (by assumption) (by omega) (by omega) dX4_lifted_21 ?_
    refine z_al0 g dX4_lifted_22 ?_
    refine zg4_10 g q1252 (Or.inl rfl) (by assumption) dX4_lifted_23 (by assumption) ?_
    refine z_iconst g dX4_lifted_26 zki_2 ?_
    refine z_al0 g dX4_lifted_27 ?_
    refine zg4_1 g q1243 (Or.inl rfl) (by assumption) dX4_lifted_28 (by assumption) ?_
    refine z_iconst g dX4_lifted_31 zki_1 ?_
    refine z_il1 g dX4_lifted_32 ?_
    first | with_reducible refine z_iaddN g dX4_lifted_33 ?_ | refine z_iadd g dX4_lifted_33 ?_
    refine z_iald (k := 0) g rfl (by assumption) (by omega) (by omega) dX4_lifted_34 ?_
    refine z_iast (k := 0) g rfl (by decide) (by assumption) (by omega) (by omega) dX4_lifted_35 ?_
    refine z_al0 g dX4_lifted_36 ?_
    refine zg4_10 g q1252 (Or.inl rfl) (by assumption) dX4_lifted_37 (by assumption) ?_
    refine z_iconst g dX4_lifted_40 zki_3 ?_
    refine z_al0 g dX4_lifted_41 ?_
    refine zg4_1 g q1243 (Or.inl rfl) (by assumption) dX4_lifted_42 (by assumption) ?_
    refine z_iconst g dX4_lifted_45 zki_1 ?_
    refine z_il2 g dX4_lifted_46 ?_
    first | with_reducible refine z_iaddN g dX4_lifted_47 ?_ | refine z_iadd g dX4_lifted_47 ?_
    refine z_iald (k := 0) g rfl (by assumption) (by omega) (by omega) dX4_lifted_48 ?_
    refine z_iast (k := 0) g rfl (by decide) (by assumption) (by omega) (by omega) dX4_lifted_49 ?_
    refine z_al0 g dX4_lifted_50 ?_
    refine zg4_10 g q1252 (Or.inl rfl) (by assumption) dX4_lifted_51 (by assumption) ?_
    refine z_iconst g dX4_lifted_54 zki_4 ?_
    refine z_al0 g dX4_lifted_55 ?_
    refine zg4_1 g q1243 (Or.inl rfl) (by assumption) dX4_lifted_56 (by assumption) ?_
    refine z_iconst g dX4_lifted_59 zki_0 ?_
    refine z_iald (k := 0) g rfl (by assumption) (by omega) (by omega) dX4_lifted_60 ?_
    refine z_bipush g dX4_lifted_61 zkb_10 ?_
    first | with_reducible refine z_iremN g dX4_lifted_63 (by omega) (by omega) (by omega) ?_ | refine z_irem g dX4_lifted_63 (by decide +kernel) ?_
    refine z_iast (k := 0) g rfl (by decide) (by assumption) (by omega) (by omega) dX4_lifted_64 ?_
    refine z_mem rfl rfl (show _ = zp I (t + 4) (zp (zp (zp (zp (zp (I (t + 4)) 0 (nI p)) 1 (I (t + 1) (12 + p))) 2 (I (t + 1) (1 + p))) 3 (I (t + 1) (1 + q))) 4 (zrem (I (t + 1) 0) (nI 10))) by simp [zp_zp, zp_s, zp_n, zrem]) rfl rfl ?_
    refine z_iconst g dX4_lifted_65 zki_0 ?_
    refine z_is3 g dX4_lifted_66 rfl ?_
    refine z_al0 g dX4_lifted_67 ?_
    refine zg4_1 g q1243 (Or.inl rfl) (by assumption) dX4_lifted_68 (by assumption) ?_
    refine z_bipush g dX4_lifted_71 zkb_11 ?_
    refine z_iald (k := 0) g rfl (by assumption) (by omega) (by omega) dX4_lifted_73 ?_
    refine z_iconst g dX4_lifted_74 zki_m1 ?_
    refine z_icmp_ne_f (tgt := 82) g dX4_lifted_75 (by decide) (by rw [zp_n (by omega)]; exact hH) ?_
    refine z_iconst g dX4_lifted_78 zki_0 ?_
    refine z_goto (tgt := 98) g dX4_lifted_79 (by decide) ?_
    refine z_is4 g dX4_lifted_98 rfl ?_
    refine z_sipush g dX4_lifted_100 zks_189 ?_
    refine z_sipush g dX4_lifted_103 zks_140 ?_
    refine z_al0 g dX4_lifted_106 ?_
    refine zg4_1 g q1243 (Or.inl rfl) (by assumption) dX4_lifted_107 (by assumption) ?_
    refine z_bipush g dX4_lifted_110 zkb_11 ?_
    refine z_iald (k := 0) g rfl (by assumption) (by omega) (by omega) dX4_lifted_112 ?_
    refine z_top (show _ = (-1 : Int32) by rw [zp_n (by omega)]; exact hH) ?_
    first | with_reducible refine z_imulN g dX4_lifted_113 ?_ | refine z_imul g dX4_lifted_113 ?_
    first | with_reducible refine z_iaddN g dX4_lifted_114 ?_ | refine z_iadd g dX4_lifted_114 ?_
    refine z_top (show _ = nI 49 by decide +kernel) ?_
    refine z_is5 g dX4_lifted_115 rfl ?_
    refine z_iconst g dX4_lifted_117 zki_0 ?_
    refine z_is6 g dX4_lifted_118 rfl ?_
    refine z_il5 g dX4_lifted_120 ?_
    refine z_is7 g dX4_lifted_122 rfl ?_
    have h := loop (zp (zp (zp (zp (zp (I (t + 4)) 0 (nI p)) 1 (I (t + 1) (12 + p))) 2 (I (t + 1) (1 + p))) 3 (I (t + 1) (1 + q))) 4 (zrem (I (t + 1) 0) (nI 10))) (envF_row _ _ _ _) 49 0 (by omega) [] 49 0 (nI 0) (I (t + 5)) [] (fun j hj => by simp at hj) rfl trivial rfl (by omega) trivial (by unfold liftF stepsF; rw [if_pos hH])
    rw [show zp (zp I (t + 4) _) (t + 5) (I (t + 5)) = zp I (t + 4) _ from by rw [← zp_n (f := I) (a := t + 4) (b := t + 5) (by omega), zp_self]] at h
    exact h
  · skip
    obtain ⟨m, hm140, hmm⟩ := hM h hh hH
    have h1 : ¬ nI h = -1 := by
      intro q
      have := nI_pos (n := h) (by omega)
      rw [q] at this
      exact this (by decide +kernel)
    have hst1 : stepsF (I (t + 1)) = (List.range m).map (fun j => I (t + 1) (189 + 140 * h + j)) := by
      unfold stepsF
      rw [if_neg (by rw [hH]; exact h1), hH, cl_nI (by omega), hmm, cl_nI (by omega)]
    refine z_al0 g dX4_lifted_0 ?_
    refine zg4_10 g q1252 (Or.inl rfl) (by assumption) dX4_lifted_1 (by assumption) ?_
    refine z_iconst g dX4_lifted_4 zki_0 ?_
    refine z_il1 g dX4_lifted_5 ?_
    refine z_iast (k := 0) g rfl (by decide) (by assumption) (by omega) (by omega) dX4_lifted_6 ?_
    refine z_al0 g dX4_lifted_7 ?_
    refine zg4_10 g q1252 (Or.inl rfl) (by assumption) dX4_lifted_8 (by assumption) ?_
    refine z_iconst g dX4_lifted_11 zki_1 ?_
    refine z_al0 g dX4_lifted_12 ?_
    refine zg4_1 g q1243 (Or.inl rfl) (by assumption) dX4_lifted_13 (by assumption) ?_
    refine z_bipush g dX4_lifted_16 zkb_12 ?_
    refine z_il1 g dX4_lifted_18 ?_
    first | with_reducible refine z_iaddN g dX4_lifted_19 ?_ | refine z_iadd g dX4_lifted_19 ?_
    refine z_iald (k := 0) g rfl (by assumption) (by omega) (by omega) dX4_lifted_20 ?_
    refine z_iast (k := 0) g rfl (by decide) (by assumption) (by omega) (by omega) dX4_lifted_21 ?_
    refine z_al0 g dX4_lifted_22 ?_
    refine zg4_10 g q1252 (Or.inl rfl) (by assumption) dX4_lifted_23 (by assumption) ?_
    refine z_iconst g dX4_lifted_26 zki_2 ?_
    refine z_al0 g dX4_lifted_27 ?_
    refine zg4_1 g q1243 (Or.inl rfl) (by assumption) dX4_lifted_28 (by assumption) ?_
    refine z_iconst g dX4_lifted_31 zki_1 ?_
    refine z_il1 g dX4_lifted_32 ?_
    first | with_reducible refine z_iaddN g dX4_lifted_33 ?_ | refine z_iadd g dX4_lifted_33 ?_
    refine z_iald (k := 0) g rfl (by assumption) (by omega) (by omega) dX4_lifted_34 ?_
    refine z_iast (k := 0) g rfl (by decide) (by assumption) (by omega) (by omega) dX4_lifted_35 ?_
    refine z_al0 g dX4_lifted_36 ?_
    refine zg4_10 g q1252 (Or.inl rfl) (by assumption) dX4_lifted_37 (by assumption) ?_
    refine z_iconst g dX4_lifted_40 zki_3 ?_
    refine z_al0 g dX4_lifted_41 ?_
    refine zg4_1 g q1243 (Or.inl rfl) (by assumption) dX4_lifted_42 (by assumption) ?_
    refine z_iconst g dX4_lifted_45 zki_1 ?_
    refine z_il2 g dX4_lifted_46 ?_
    first | with_reducible refine z_iaddN g dX4_lifted_47 ?_ | refine z_iadd g dX4_lifted_47 ?_
    refine z_iald (k := 0) g rfl (by assumption) (by omega) (by omega) dX4_lifted_48 ?_
    refine z_iast (k := 0) g rfl (by decide) (by assumption) (by omega) (by omega) dX4_lifted_49 ?_
    refine z_al0 g dX4_lifted_50 ?_
    refine zg4_10 g q1252 (Or.inl rfl) (by assumption) dX4_lifted_51 (by assumption) ?_
    refine z_iconst g dX4_lifted_54 zki_4 ?_
    refine z_al0 g dX4_lifted_55 ?_
    refine zg4_1 g q1243 (Or.inl rfl) (by assumption) dX4_lifted_56 (by assumption) ?_
    refine z_iconst g dX4_lifted_59 zki_0 ?_
    refine z_iald (k := 0) g rfl (by assumption) (by omega) (by omega) dX4_lifted_60 ?_
    refine z_bipush g dX4_lifted_61 zkb_10 ?_
    first | with_reducible refine z_iremN g dX4_lifted_63 (by omega) (by omega) (by omega) ?_ | refine z_irem g dX4_lifted_63 (by decide +kernel) ?_
    refine z_iast (k := 0) g rfl (by decide) (by assumption) (by omega) (by omega) dX4_lifted_64 ?_
    refine z_mem rfl rfl (show _ = zp I (t + 4) (zp (zp (zp (zp (zp (I (t + 4)) 0 (nI p)) 1 (I (t + 1) (12 + p))) 2 (I (t + 1) (1 + p))) 3 (I (t + 1) (1 + q))) 4 (zrem (I (t + 1) 0) (nI 10))) by simp [zp_zp, zp_s, zp_n, zrem]) rfl rfl ?_
    refine z_iconst g dX4_lifted_65 zki_0 ?_
    refine z_is3 g dX4_lifted_66 rfl ?_
    refine z_al0 g dX4_lifted_67 ?_
    refine zg4_1 g q1243 (Or.inl rfl) (by assumption) dX4_lifted_68 (by assumption) ?_
    refine z_bipush g dX4_lifted_71 zkb_11 ?_
    refine z_iald (k := 0) g rfl (by assumption) (by omega) (by omega) dX4_lifted_73 ?_
    refine z_iconst g dX4_lifted_74 zki_m1 ?_
    refine z_icmp_ne_t (tgt := 82) g dX4_lifted_75 (by decide) (by rw [zp_n (by omega), hH]; exact h1) ?_
    refine z_al0 g dX4_lifted_82 ?_
    refine zg4_1 g q1243 (Or.inl rfl) (by assumption) dX4_lifted_83 (by assumption) ?_
    refine z_sipush g dX4_lifted_86 zks_184 ?_
    refine z_al0 g dX4_lifted_89 ?_
    refine zg4_1 g q1243 (Or.inl rfl) (by assumption) dX4_lifted_90 (by assumption) ?_
    refine z_bipush g dX4_lifted_93 zkb_11 ?_
    refine z_iald (k := 0) g rfl (by assumption) (by omega) (by omega) dX4_lifted_95 ?_
    refine z_top (show _ = nI h by rw [zp_n (by omega)]; exact hH) ?_
    first | with_reducible refine z_iaddN g dX4_lifted_96 ?_ | refine z_iadd g dX4_lifted_96 ?_
    refine z_iald (k := 0) g rfl (by assumption) (by omega) (by omega) dX4_lifted_97 ?_
    refine z_top (show _ = nI m by rw [zp_n (by omega)]; exact hmm) ?_
    refine z_is4 g dX4_lifted_98 rfl ?_
    refine z_sipush g dX4_lifted_100 zks_189 ?_
    refine z_sipush g dX4_lifted_103 zks_140 ?_
    refine z_al0 g dX4_lifted_106 ?_
    refine zg4_1 g q1243 (Or.inl rfl) (by assumption) dX4_lifted_107 (by assumption) ?_
    refine z_bipush g dX4_lifted_110 zkb_11 ?_
    refine z_iald (k := 0) g rfl (by assumption) (by omega) (by omega) dX4_lifted_112 ?_
    refine z_top (show _ = nI h by rw [zp_n (by omega)]; exact hH) ?_
    first | with_reducible refine z_imulN g dX4_lifted_113 ?_ | refine z_imul g dX4_lifted_113 ?_
    first | with_reducible refine z_iaddN g dX4_lifted_114 ?_ | refine z_iadd g dX4_lifted_114 ?_
    refine z_is5 g dX4_lifted_115 rfl ?_
    refine z_iconst g dX4_lifted_117 zki_0 ?_
    refine z_is6 g dX4_lifted_118 rfl ?_
    refine z_il5 g dX4_lifted_120 ?_
    refine z_is7 g dX4_lifted_122 rfl ?_
    have h := loop (zp (zp (zp (zp (zp (I (t + 4)) 0 (nI p)) 1 (I (t + 1) (12 + p))) 2 (I (t + 1) (1 + p))) 3 (I (t + 1) (1 + q))) 4 (zrem (I (t + 1) 0) (nI 10))) (envF_row _ _ _ _) (189 + 140 * h) m (by omega) _ (189 + 140 * h) 0 (nI 0) (I (t + 5)) [] (fun j hj => ?_) ?_ hS rfl (by omega) trivial rfl
    · rw [show zp (zp I (t + 4) _) (t + 5) (I (t + 5)) = zp I (t + 4) _ from by rw [← zp_n (f := I) (a := t + 4) (b := t + 5) (by omega), zp_self]] at h
      exact h
    · rw [hst1] at hj ⊢
      simp only [List.length_map, List.length_range] at hj
      rw [List.getD_eq_getElem?_getD, List.getElem?_map, List.getElem?_range hj]
      rfl
    · rw [hst1, List.length_map, List.length_range]

theorem nI_d : ¬ nI 0 = nI 1 ∧ ¬ nI 0 = nI 2 ∧ ¬ nI 0 = nI 3 ∧ ¬ nI 0 = nI 4 ∧ ¬ nI 0 = nI 5 ∧ ¬ nI 0 = nI 6 ∧ ¬ nI 1 = nI 0 ∧ ¬ nI 1 = nI 2 ∧ ¬ nI 1 = nI 3 ∧ ¬ nI 1 = nI 4 ∧ ¬ nI 1 = nI 5 ∧ ¬ nI 1 = nI 6 ∧ ¬ nI 2 = nI 0 ∧ ¬ nI 2 = nI 1 ∧ ¬ nI 2 = nI 3 ∧ ¬ nI 2 = nI 4 ∧ ¬ nI 2 = nI 5 ∧ ¬ nI 2 = nI 6 ∧ ¬ nI 3 = nI 0 ∧ ¬ nI 3 = nI 1 ∧ ¬ nI 3 = nI 2 ∧ ¬ nI 3 = nI 4 ∧ ¬ nI 3 = nI 5 ∧ ¬ nI 3 = nI 6 ∧ ¬ nI 4 = nI 0 ∧ ¬ nI 4 = nI 1 ∧ ¬ nI 4 = nI 2 ∧ ¬ nI 4 = nI 3 ∧ ¬ nI 4 = nI 5 ∧ ¬ nI 4 = nI 6 ∧ ¬ nI 5 = nI 0 ∧ ¬ nI 5 = nI 1 ∧ ¬ nI 5 = nI 2 ∧ ¬ nI 5 = nI 3 ∧ ¬ nI 5 = nI 4 ∧ ¬ nI 5 = nI 6 ∧ ¬ nI 6 = nI 0 ∧ ¬ nI 6 = nI 1 ∧ ¬ nI 6 = nI 2 ∧ ¬ nI 6 = nI 3 ∧ ¬ nI 6 = nI 4 ∧ ¬ nI 6 = nI 5 := by decide +kernel
set_option maxHeartbeats 4000000 in
theorem c_X4_pushOf {E : ZE} {n : Nat} {T : ZT} {I : ZI} {L : ZL} {R : ZR} {t : Nat} (hL : TL T R t) (hO : oddOK (I (t + 1))) {p q : Nat} (hp : p < 5) (hq : q < 5) : zM E yX4_pushOf cX4_pushOf 8 (some (Jvm.ClassFile.FieldType.int)) 1 0 0 [.ref t, .int (nI p), .int (nI q)] n T I L R (zscr (some (.int (pushF (I (t + 1)) p q))) n T I (t + 4) (t + 5) L R) := by
  refine zM.of (lv0 := [some (.ref t), some (.int (nI p)), some (.int (nI q)), none, none, none, none, none]) pn_X4 (Nat.le_of_ble_eq_true rfl) rfl fun G g r hin hlt hbn => ?_
  have g : zGd E G cX4_pushOf RX4 8 1 0 0 := g
  have hL0 := hL
  obtain ⟨hT, h1, ht1, h2, ht2, h3, ht3, h10, ht4, h11, ht5, ht6, ht7, h16, ht8, h17, ht9, h19, ht10⟩ := hL0
  obtain ⟨hH, hM, hS, hK, gm, hgm, hG⟩ := hO
  obtain ⟨kn, hkn, hk⟩ := hK p hp
  rcases (show kn = 0 ∨ kn = 1 ∨ kn = 2 ∨ kn = 3 ∨ kn = 4 ∨ kn = 5 ∨ kn = 6 by omega) with rfl | rfl | rfl | rfl | rfl | rfl | rfl
  · skip
    clear hG
    refine z_al0 g dX4_pushOf_0 ?_
    refine zg4_1 g q1243 (Or.inl rfl) (by assumption) dX4_pushOf_1 (by assumption) ?_
    refine z_bipush g dX4_pushOf_4 zkb_12 ?_
    refine z_il1 g dX4_pushOf_6 ?_
    first | with_reducible refine z_iaddN g dX4_pushOf_7 ?_ | refine z_iadd g dX4_pushOf_7 ?_
    refine z_iald (k := 0) g rfl (by assumption) (by omega) (by omega) dX4_pushOf_8 ?_
    refine z_top hk ?_
    refine z_is3 g dX4_pushOf_9 rfl ?_
    refine z_al0 g dX4_pushOf_10 ?_
    refine zg4_1 g q1243 (Or.inl rfl) (by assumption) dX4_pushOf_11 (by assumption) ?_
    refine z_bipush g dX4_pushOf_14 zkb_17 ?_
    refine z_il1 g dX4_pushOf_16 ?_
    first | with_reducible refine z_iaddN g dX4_pushOf_17 ?_ | refine z_iadd g dX4_pushOf_17 ?_
    refine z_iald (k := 0) g rfl (by assumption) (by omega) (by omega) dX4_pushOf_18 ?_
    refine z_is4 g dX4_pushOf_19 rfl ?_
    refine z_al0 g dX4_pushOf_21 ?_
    refine zg4_1 g q1243 (Or.inl rfl) (by assumption) dX4_pushOf_22 (by assumption) ?_
    refine z_iconst g dX4_pushOf_25 zki_1 ?_
    refine z_il1 g dX4_pushOf_26 ?_
    first | with_reducible refine z_iaddN g dX4_pushOf_27 ?_ | refine z_iadd g dX4_pushOf_27 ?_
    refine z_iald (k := 0) g rfl (by assumption) (by omega) (by omega) dX4_pushOf_28 ?_
    refine z_is5 g dX4_pushOf_29 rfl ?_
    refine z_al0 g dX4_pushOf_31 ?_
    refine z_il1 g dX4_pushOf_32 ?_
    refine z_il2 g dX4_pushOf_33 ?_
    refine z_callV2 g ck_X4_lifted q1466 q1468 qs53 cls4 (by assumption) (c_X4_lifted hL hH hM hS hp hq) rfl (Nat.le_of_ble_eq_true rfl) (by omega) (by omega) (by omega) dX4_pushOf_34 (z_ex fun w _ => z_ans1 ?_)
    refine z_il4 g dX4_pushOf_37 ?_
    first | with_reducible refine z_iaddN g dX4_pushOf_39 ?_ | refine z_iadd g dX4_pushOf_39 ?_
    refine z_is6 g dX4_pushOf_40 rfl ?_
    refine z_il6 g dX4_pushOf_42 ?_
    refine z_il3 g dX4_pushOf_44 ?_
    refine z_iconst g dX4_pushOf_45 zki_1 ?_
    refine z_icmp_eq_f (tgt := 54) g dX4_pushOf_46 (by decide) (by decide +kernel) ?_
    refine z_il3 g dX4_pushOf_49 ?_
    refine z_iconst g dX4_pushOf_50 zki_4 ?_
    refine z_icmp_ne_t (tgt := 71) g dX4_pushOf_51 (by decide) (by decide +kernel) ?_
    refine z_iconst g dX4_pushOf_71 zki_0 ?_
    first | with_reducible refine z_iaddN g dX4_pushOf_72 ?_ | refine z_iadd g dX4_pushOf_72 ?_
    refine z_is6 g dX4_pushOf_73 rfl ?_
    refine z_il6 g dX4_pushOf_75 ?_
    refine z_il3 g dX4_pushOf_77 ?_
    refine z_iconst g dX4_pushOf_78 zki_4 ?_
    refine z_icmp_ne_t (tgt := 86) g dX4_pushOf_79 (by decide) (by decide +kernel) ?_
    refine z_iconst g dX4_pushOf_86 zki_0 ?_
    first | with_reducible refine z_iaddN g dX4_pushOf_87 ?_ | refine z_iadd g dX4_pushOf_87 ?_
    refine z_is6 g dX4_pushOf_88 rfl ?_
    refine z_il3 g dX4_pushOf_90 ?_
    refine z_iconst g dX4_pushOf_91 zki_2 ?_
    refine z_icmp_eq_f (tgt := 113) g dX4_pushOf_92 (by decide) (by decide +kernel) ?_
    refine z_il3 g dX4_pushOf_95 ?_
    refine z_iconst g dX4_pushOf_96 zki_5 ?_
    refine z_icmp_ne_t (tgt := 117) g dX4_pushOf_97 (by decide) (by decide +kernel) ?_
    refine z_iconst g dX4_pushOf_117 zki_0 ?_
    refine z_is7 g dX4_pushOf_118 rfl ?_
    refine z_il6 g dX4_pushOf_120 ?_
    refine z_il7 g dX4_pushOf_122 ?_
    refine z_if_eq_t (tgt := 138) g dX4_pushOf_124 (by decide) (by decide +kernel) ?_
    refine z_iconst g dX4_pushOf_138 zki_0 ?_
    first | with_reducible refine z_isubN g dX4_pushOf_139 (by omega) ?_ | refine z_isub g dX4_pushOf_139 ?_
    refine z_is6 g dX4_pushOf_140 rfl ?_
    refine z_il6 g dX4_pushOf_142 ?_
    refine z_il3 g dX4_pushOf_144 ?_
    refine z_iconst g dX4_pushOf_145 zki_3 ?_
    refine z_icmp_eq_f (tgt := 155) g dX4_pushOf_146 (by decide) (by decide +kernel) ?_
    refine z_il3 g dX4_pushOf_149 ?_
    refine z_bipush g dX4_pushOf_150 zkb_6 ?_
    refine z_icmp_ne_t (tgt := 169) g dX4_pushOf_152 (by decide) (by decide +kernel) ?_
    refine z_iconst g dX4_pushOf_169 zki_0 ?_
    first | with_reducible refine z_isubN g dX4_pushOf_170 (by omega) ?_ | refine z_isub g dX4_pushOf_170 ?_
    refine z_is6 g dX4_pushOf_171 rfl ?_
    refine z_il6 g dX4_pushOf_173 ?_
    refine z_il3 g dX4_pushOf_175 ?_
    refine z_bipush g dX4_pushOf_176 zkb_6 ?_
    refine z_icmp_ne_t (tgt := 206) g dX4_pushOf_178 (by decide) (by decide +kernel) ?_
    refine z_iconst g dX4_pushOf_206 zki_0 ?_
    first | with_reducible refine z_iaddN g dX4_pushOf_207 ?_ | refine z_iadd g dX4_pushOf_207 ?_
    refine z_iret g r (by omega) (by omega) dX4_pushOf_208 ?_
    exact ⟨w, trivial, by unfold pushF; simp only [hk]; simp [nI_d, *], rfl, rfl, rfl, rfl, rfl⟩
  · skip
    clear hG
    refine z_al0 g dX4_pushOf_0 ?_
    refine zg4_1 g q1243 (Or.inl rfl) (by assumption) dX4_pushOf_1 (by assumption) ?_
    refine z_bipush g dX4_pushOf_4 zkb_12 ?_
    refine z_il1 g dX4_pushOf_6 ?_
    first | with_reducible refine z_iaddN g dX4_pushOf_7 ?_ | refine z_iadd g dX4_pushOf_7 ?_
    refine z_iald (k := 0) g rfl (by assumption) (by omega) (by omega) dX4_pushOf_8 ?_
    refine z_top hk ?_
    refine z_is3 g dX4_pushOf_9 rfl ?_
    refine z_al0 g dX4_pushOf_10 ?_
    refine zg4_1 g q1243 (Or.inl rfl) (by assumption) dX4_pushOf_11 (by assumption) ?_
    refine z_bipush g dX4_pushOf_14 zkb_17 ?_
    refine z_il1 g dX4_pushOf_16 ?_
    first | with_reducible refine z_iaddN g dX4_pushOf_17 ?_ | refine z_iadd g dX4_pushOf_17 ?_
    refine z_iald (k := 0) g rfl (by assumption) (by omega) (by omega) dX4_pushOf_18 ?_
    refine z_is4 g dX4_pushOf_19 rfl ?_
    refine z_al0 g dX4_pushOf_21 ?_
    refine zg4_1 g q1243 (Or.inl rfl) (by assumption) dX4_pushOf_22 (by assumption) ?_
    refine z_iconst g dX4_pushOf_25 zki_1 ?_
    refine z_il1 g dX4_pushOf_26 ?_
    first | with_reducible refine z_iaddN g dX4_pushOf_27 ?_ | refine z_iadd g dX4_pushOf_27 ?_
    refine z_iald (k := 0) g rfl (by assumption) (by omega) (by omega) dX4_pushOf_28 ?_
    refine z_is5 g dX4_pushOf_29 rfl ?_
    refine z_al0 g dX4_pushOf_31 ?_
    refine z_il1 g dX4_pushOf_32 ?_
    refine z_il2 g dX4_pushOf_33 ?_
    refine z_callV2 g ck_X4_lifted q1466 q1468 qs53 cls4 (by assumption) (c_X4_lifted hL hH hM hS hp hq) rfl (Nat.le_of_ble_eq_true rfl) (by omega) (by omega) (by omega) dX4_pushOf_34 (z_ex fun w _ => z_ans1 ?_)
    refine z_il4 g dX4_pushOf_37 ?_
    first | with_reducible refine z_iaddN g dX4_pushOf_39 ?_ | refine z_iadd g dX4_pushOf_39 ?_
    refine z_is6 g dX4_pushOf_40 rfl ?_
    refine z_il6 g dX4_pushOf_42 ?_
    refine z_il3 g dX4_pushOf_44 ?_
    refine z_iconst g dX4_pushOf_45 zki_1 ?_
    refine z_icmp_eq_t (tgt := 54) g dX4_pushOf_46 (by decide) (by decide +kernel) ?_
    refine z_il5 g dX4_pushOf_54 ?_
    refine z_al0 g dX4_pushOf_56 ?_
    refine zg4_1 g q1243 (Or.inl rfl) (by assumption) dX4_pushOf_57 (by assumption) ?_
    refine z_iconst g dX4_pushOf_60 zki_1 ?_
    refine z_il2 g dX4_pushOf_61 ?_
    first | with_reducible refine z_iaddN g dX4_pushOf_62 ?_ | refine z_iadd g dX4_pushOf_62 ?_
    refine z_iald (k := 0) g rfl (by assumption) (by omega) (by omega) dX4_pushOf_63 ?_
    refine z_top (show _ = I (t + 1) (1 + q) by rw [zp_n (by omega), zp_n (by omega)]) ?_
    refine z_icmp_ge (tgt := 71) g dX4_pushOf_64 (by decide) (fun c64 => ?_) (fun c64 => ?_)
    · skip
      have d64 := Int32.not_lt.mpr c64
      refine z_iconst g dX4_pushOf_71 zki_0 ?_
      first | with_reducible refine z_iaddN g dX4_pushOf_72 ?_ | refine z_iadd g dX4_pushOf_72 ?_
      refine z_is6 g dX4_pushOf_73 rfl ?_
      refine z_il6 g dX4_pushOf_75 ?_
      refine z_il3 g dX4_pushOf_77 ?_
      refine z_iconst g dX4_pushOf_78 zki_4 ?_
      refine z_icmp_ne_t (tgt := 86) g dX4_pushOf_79 (by decide) (by decide +kernel) ?_
      refine z_iconst g dX4_pushOf_86 zki_0 ?_
      first | with_reducible refine z_iaddN g dX4_pushOf_87 ?_ | refine z_iadd g dX4_pushOf_87 ?_
      refine z_is6 g dX4_pushOf_88 rfl ?_
      refine z_il3 g dX4_pushOf_90 ?_
      refine z_iconst g dX4_pushOf_91 zki_2 ?_
      refine z_icmp_eq_f (tgt := 113) g dX4_pushOf_92 (by decide) (by decide +kernel) ?_
      refine z_il3 g dX4_pushOf_95 ?_
      refine z_iconst g dX4_pushOf_96 zki_5 ?_
      refine z_icmp_ne_t (tgt := 117) g dX4_pushOf_97 (by decide) (by decide +kernel) ?_
      refine z_iconst g dX4_pushOf_117 zki_0 ?_
      refine z_is7 g dX4_pushOf_118 rfl ?_
      refine z_il6 g dX4_pushOf_120 ?_
      refine z_il7 g dX4_pushOf_122 ?_
      refine z_if_eq_t (tgt := 138) g dX4_pushOf_124 (by decide) (by decide +kernel) ?_
      refine z_iconst g dX4_pushOf_138 zki_0 ?_
      first | with_reducible refine z_isubN g dX4_pushOf_139 (by omega) ?_ | refine z_isub g dX4_pushOf_139 ?_
      refine z_is6 g dX4_pushOf_140 rfl ?_
      refine z_il6 g dX4_pushOf_142 ?_
      refine z_il3 g dX4_pushOf_144 ?_
      refine z_iconst g dX4_pushOf_145 zki_3 ?_
      refine z_icmp_eq_f (tgt := 155) g dX4_pushOf_146 (by decide) (by decide +kernel) ?_
      refine z_il3 g dX4_pushOf_149 ?_
      refine z_bipush g dX4_pushOf_150 zkb_6 ?_
      refine z_icmp_ne_t (tgt := 169) g dX4_pushOf_152 (by decide) (by decide +kernel) ?_
      refine z_iconst g dX4_pushOf_169 zki_0 ?_
      first | with_reducible refine z_isubN g dX4_pushOf_170 (by omega) ?_ | refine z_isub g dX4_pushOf_170 ?_
      refine z_is6 g dX4_pushOf_171 rfl ?_
      refine z_il6 g dX4_pushOf_173 ?_
      refine z_il3 g dX4_pushOf_175 ?_
      refine z_bipush g dX4_pushOf_176 zkb_6 ?_
      refine z_icmp_ne_t (tgt := 206) g dX4_pushOf_178 (by decide) (by decide +kernel) ?_
      refine z_iconst g dX4_pushOf_206 zki_0 ?_
      first | with_reducible refine z_iaddN g dX4_pushOf_207 ?_ | refine z_iadd g dX4_pushOf_207 ?_
      refine z_iret g r (by omega) (by omega) dX4_pushOf_208 ?_
      exact ⟨w, trivial, by unfold pushF; simp only [hk]; simp [nI_d, *], rfl, rfl, rfl, rfl, rfl⟩
    · skip
      have d64 := Int32.not_le.mp c64
      refine z_iconst g dX4_pushOf_67 zki_2 ?_
      refine z_goto (tgt := 72) g dX4_pushOf_68 (by decide) ?_
      first | with_reducible refine z_iaddN g dX4_pushOf_72 ?_ | refine z_iadd g dX4_pushOf_72 ?_
      refine z_is6 g dX4_pushOf_73 rfl ?_
      refine z_il6 g dX4_pushOf_75 ?_
      refine z_il3 g dX4_pushOf_77 ?_
      refine z_iconst g dX4_pushOf_78 zki_4 ?_
      refine z_icmp_ne_t (tgt := 86) g dX4_pushOf_79 (by decide) (by decide +kernel) ?_
      refine z_iconst g dX4_pushOf_86 zki_0 ?_
      first | with_reducible refine z_iaddN g dX4_pushOf_87 ?_ | refine z_iadd g dX4_pushOf_87 ?_
      refine z_is6 g dX4_pushOf_88 rfl ?_
      refine z_il3 g dX4_pushOf_90 ?_
      refine z_iconst g dX4_pushOf_91 zki_2 ?_
      refine z_icmp_eq_f (tgt := 113) g dX4_pushOf_92 (by decide) (by decide +kernel) ?_
      refine z_il3 g dX4_pushOf_95 ?_
      refine z_iconst g dX4_pushOf_96 zki_5 ?_
      refine z_icmp_ne_t (tgt := 117) g dX4_pushOf_97 (by decide) (by decide +kernel) ?_
      refine z_iconst g dX4_pushOf_117 zki_0 ?_
      refine z_is7 g dX4_pushOf_118 rfl ?_
      refine z_il6 g dX4_pushOf_120 ?_
      refine z_il7 g dX4_pushOf_122 ?_
      refine z_if_eq_t (tgt := 138) g dX4_pushOf_124 (by decide) (by decide +kernel) ?_
      refine z_iconst g dX4_pushOf_138 zki_0 ?_
      first | with_reducible refine z_isubN g dX4_pushOf_139 (by omega) ?_ | refine z_isub g dX4_pushOf_139 ?_
      refine z_is6 g dX4_pushOf_140 rfl ?_
      refine z_il6 g dX4_pushOf_142 ?_
      refine z_il3 g dX4_pushOf_144 ?_
      refine z_iconst g dX4_pushOf_145 zki_3 ?_
      refine z_icmp_eq_f (tgt := 155) g dX4_pushOf_146 (by decide) (by decide +kernel) ?_
      refine z_il3 g dX4_pushOf_149 ?_
      refine z_bipush g dX4_pushOf_150 zkb_6 ?_
      refine z_icmp_ne_t (tgt := 169) g dX4_pushOf_152 (by decide) (by decide +kernel) ?_
      refine z_iconst g dX4_pushOf_169 zki_0 ?_
      first | with_reducible refine z_isubN g dX4_pushOf_170 (by omega) ?_ | refine z_isub g dX4_pushOf_170 ?_
      refine z_is6 g dX4_pushOf_171 rfl ?_
      refine z_il6 g dX4_pushOf_173 ?_
      refine z_il3 g dX4_pushOf_175 ?_
      refine z_bipush g dX4_pushOf_176 zkb_6 ?_
      refine z_icmp_ne_t (tgt := 206) g dX4_pushOf_178 (by decide) (by decide +kernel) ?_
      refine z_iconst g dX4_pushOf_206 zki_0 ?_
      first | with_reducible refine z_iaddN g dX4_pushOf_207 ?_ | refine z_iadd g dX4_pushOf_207 ?_
      refine z_iret g r (by omega) (by omega) dX4_pushOf_208 ?_
      exact ⟨w, trivial, by unfold pushF; simp only [hk]; simp [nI_d, *], rfl, rfl, rfl, rfl, rfl⟩
  · skip
    clear hG
    refine z_al0 g dX4_pushOf_0 ?_
    refine zg4_1 g q1243 (Or.inl rfl) (by assumption) dX4_pushOf_1 (by assumption) ?_
    refine z_bipush g dX4_pushOf_4 zkb_12 ?_
    refine z_il1 g dX4_pushOf_6 ?_
    first | with_reducible refine z_iaddN g dX4_pushOf_7 ?_ | refine z_iadd g dX4_pushOf_7 ?_
    refine z_iald (k := 0) g rfl (by assumption) (by omega) (by omega) dX4_pushOf_8 ?_
    refine z_top hk ?_
    refine z_is3 g dX4_pushOf_9 rfl ?_
    refine z_al0 g dX4_pushOf_10 ?_
    refine zg4_1 g q1243 (Or.inl rfl) (by assumption) dX4_pushOf_11 (by assumption) ?_
    refine z_bipush g dX4_pushOf_14 zkb_17 ?_
    refine z_il1 g dX4_pushOf_16 ?_
    first | with_reducible refine z_iaddN g dX4_pushOf_17 ?_ | refine z_iadd g dX4_pushOf_17 ?_
    refine z_iald (k := 0) g rfl (by assumption) (by omega) (by omega) dX4_pushOf_18 ?_
    refine z_is4 g dX4_pushOf_19 rfl ?_
    refine z_al0 g dX4_pushOf_21 ?_
    refine zg4_1 g q1243 (Or.inl rfl) (by assumption) dX4_pushOf_22 (by assumption) ?_
    refine z_iconst g dX4_pushOf_25 zki_1 ?_
    refine z_il1 g dX4_pushOf_26 ?_
    first | with_reducible refine z_iaddN g dX4_pushOf_27 ?_ | refine z_iadd g dX4_pushOf_27 ?_
    refine z_iald (k := 0) g rfl (by assumption) (by omega) (by omega) dX4_pushOf_28 ?_
    refine z_is5 g dX4_pushOf_29 rfl ?_
    refine z_al0 g dX4_pushOf_31 ?_
    refine z_il1 g dX4_pushOf_32 ?_
    refine z_il2 g dX4_pushOf_33 ?_
    refine z_callV2 g ck_X4_lifted q1466 q1468 qs53 cls4 (by assumption) (c_X4_lifted hL hH hM hS hp hq) rfl (Nat.le_of_ble_eq_true rfl) (by omega) (by omega) (by omega) dX4_pushOf_34 (z_ex fun w _ => z_ans1 ?_)
    refine z_il4 g dX4_pushOf_37 ?_
    first | with_reducible refine z_iaddN g dX4_pushOf_39 ?_ | refine z_iadd g dX4_pushOf_39 ?_
    refine z_is6 g dX4_pushOf_40 rfl ?_
    refine z_il6 g dX4_pushOf_42 ?_
    refine z_il3 g dX4_pushOf_44 ?_
    refine z_iconst g dX4_pushOf_45 zki_1 ?_
    refine z_icmp_eq_f (tgt := 54) g dX4_pushOf_46 (by decide) (by decide +kernel) ?_
    refine z_il3 g dX4_pushOf_49 ?_
    refine z_iconst g dX4_pushOf_50 zki_4 ?_
    refine z_icmp_ne_t (tgt := 71) g dX4_pushOf_51 (by decide) (by decide +kernel) ?_
    refine z_iconst g dX4_pushOf_71 zki_0 ?_
    first | with_reducible refine z_iaddN g dX4_pushOf_72 ?_ | refine z_iadd g dX4_pushOf_72 ?_
    refine z_is6 g dX4_pushOf_73 rfl ?_
    refine z_il6 g dX4_pushOf_75 ?_
    refine z_il3 g dX4_pushOf_77 ?_
    refine z_iconst g dX4_pushOf_78 zki_4 ?_
    refine z_icmp_ne_t (tgt := 86) g dX4_pushOf_79 (by decide) (by decide +kernel) ?_
    refine z_iconst g dX4_pushOf_86 zki_0 ?_
    first | with_reducible refine z_iaddN g dX4_pushOf_87 ?_ | refine z_iadd g dX4_pushOf_87 ?_
    refine z_is6 g dX4_pushOf_88 rfl ?_
    refine z_il3 g dX4_pushOf_90 ?_
    refine z_iconst g dX4_pushOf_91 zki_2 ?_
    refine z_icmp_eq_t (tgt := 113) g dX4_pushOf_92 (by decide) (by decide +kernel) ?_
    refine z_iconst g dX4_pushOf_113 zki_1 ?_
    refine z_goto (tgt := 118) g dX4_pushOf_114 (by decide) ?_
    refine z_is7 g dX4_pushOf_118 rfl ?_
    refine z_il6 g dX4_pushOf_120 ?_
    refine z_il7 g dX4_pushOf_122 ?_
    refine z_if_eq_f (tgt := 138) g dX4_pushOf_124 (by decide) (by decide +kernel) ?_
    refine z_il5 g dX4_pushOf_127 ?_
    refine z_iconst g dX4_pushOf_129 zki_4 ?_
    refine z_icmp_ge (tgt := 138) g dX4_pushOf_130 (by decide) (fun c130 => ?_) (fun c130 => ?_)
    · skip
      have d130 := Int32.not_lt.mpr c130
      refine z_iconst g dX4_pushOf_138 zki_0 ?_
      first | with_reducible refine z_isubN g dX4_pushOf_139 (by omega) ?_ | refine z_isub g dX4_pushOf_139 ?_
      refine z_is6 g dX4_pushOf_140 rfl ?_
      refine z_il6 g dX4_pushOf_142 ?_
      refine z_il3 g dX4_pushOf_144 ?_
      refine z_iconst g dX4_pushOf_145 zki_3 ?_
      refine z_icmp_eq_f (tgt := 155) g dX4_pushOf_146 (by decide) (by decide +kernel) ?_
      refine z_il3 g dX4_pushOf_149 ?_
      refine z_bipush g dX4_pushOf_150 zkb_6 ?_
      refine z_icmp_ne_t (tgt := 169) g dX4_pushOf_152 (by decide) (by decide +kernel) ?_
      refine z_iconst g dX4_pushOf_169 zki_0 ?_
      first | with_reducible refine z_isubN g dX4_pushOf_170 (by omega) ?_ | refine z_isub g dX4_pushOf_170 ?_
      refine z_is6 g dX4_pushOf_171 rfl ?_
      refine z_il6 g dX4_pushOf_173 ?_
      refine z_il3 g dX4_pushOf_175 ?_
      refine z_bipush g dX4_pushOf_176 zkb_6 ?_
      refine z_icmp_ne_t (tgt := 206) g dX4_pushOf_178 (by decide) (by decide +kernel) ?_
      refine z_iconst g dX4_pushOf_206 zki_0 ?_
      first | with_reducible refine z_iaddN g dX4_pushOf_207 ?_ | refine z_iadd g dX4_pushOf_207 ?_
      refine z_iret g r (by omega) (by omega) dX4_pushOf_208 ?_
      exact ⟨w, trivial, by unfold pushF; simp only [hk]; simp [nI_d, *], rfl, rfl, rfl, rfl, rfl⟩
    · skip
      have d130 := Int32.not_le.mp c130
      refine z_bipush g dX4_pushOf_133 zkb_9 ?_
      refine z_goto (tgt := 139) g dX4_pushOf_135 (by decide) ?_
      first | with_reducible refine z_isubN g dX4_pushOf_139 (by omega) ?_ | refine z_isub g dX4_pushOf_139 ?_
      refine z_is6 g dX4_pushOf_140 rfl ?_
      refine z_il6 g dX4_pushOf_142 ?_
      refine z_il3 g dX4_pushOf_144 ?_
      refine z_iconst g dX4_pushOf_145 zki_3 ?_
      refine z_icmp_eq_f (tgt := 155) g dX4_pushOf_146 (by decide) (by decide +kernel) ?_
      refine z_il3 g dX4_pushOf_149 ?_
      refine z_bipush g dX4_pushOf_150 zkb_6 ?_
      refine z_icmp_ne_t (tgt := 169) g dX4_pushOf_152 (by decide) (by decide +kernel) ?_
      refine z_iconst g dX4_pushOf_169 zki_0 ?_
      first | with_reducible refine z_isubN g dX4_pushOf_170 (by omega) ?_ | refine z_isub g dX4_pushOf_170 ?_
      refine z_is6 g dX4_pushOf_171 rfl ?_
      refine z_il6 g dX4_pushOf_173 ?_
      refine z_il3 g dX4_pushOf_175 ?_
      refine z_bipush g dX4_pushOf_176 zkb_6 ?_
      refine z_icmp_ne_t (tgt := 206) g dX4_pushOf_178 (by decide) (by decide +kernel) ?_
      refine z_iconst g dX4_pushOf_206 zki_0 ?_
      first | with_reducible refine z_iaddN g dX4_pushOf_207 ?_ | refine z_iadd g dX4_pushOf_207 ?_
      refine z_iret g r (by omega) (by omega) dX4_pushOf_208 ?_
      exact ⟨w, trivial, by unfold pushF; simp only [hk]; simp [nI_d, *], rfl, rfl, rfl, rfl, rfl⟩
  · skip
    clear hG
    refine z_al0 g dX4_pushOf_0 ?_
    refine zg4_1 g q1243 (Or.inl rfl) (by assumption) dX4_pushOf_1 (by assumption) ?_
    refine z_bipush g dX4_pushOf_4 zkb_12 ?_
    refine z_il1 g dX4_pushOf_6 ?_
    first | with_reducible refine z_iaddN g dX4_pushOf_7 ?_ | refine z_iadd g dX4_pushOf_7 ?_
    refine z_iald (k := 0) g rfl (by assumption) (by omega) (by omega) dX4_pushOf_8 ?_
    refine z_top hk ?_
    refine z_is3 g dX4_pushOf_9 rfl ?_
    refine z_al0 g dX4_pushOf_10 ?_
    refine zg4_1 g q1243 (Or.inl rfl) (by assumption) dX4_pushOf_11 (by assumption) ?_
    refine z_bipush g dX4_pushOf_14 zkb_17 ?_
    refine z_il1 g dX4_pushOf_16 ?_
    first | with_reducible refine z_iaddN g dX4_pushOf_17 ?_ | refine z_iadd g dX4_pushOf_17 ?_
    refine z_iald (k := 0) g rfl (by assumption) (by omega) (by omega) dX4_pushOf_18 ?_
    refine z_is4 g dX4_pushOf_19 rfl ?_
    refine z_al0 g dX4_pushOf_21 ?_
    refine zg4_1 g q1243 (Or.inl rfl) (by assumption) dX4_pushOf_22 (by assumption) ?_
    refine z_iconst g dX4_pushOf_25 zki_1 ?_
    refine z_il1 g dX4_pushOf_26 ?_
    first | with_reducible refine z_iaddN g dX4_pushOf_27 ?_ | refine z_iadd g dX4_pushOf_27 ?_
    refine z_iald (k := 0) g rfl (by assumption) (by omega) (by omega) dX4_pushOf_28 ?_
    refine z_is5 g dX4_pushOf_29 rfl ?_
    refine z_al0 g dX4_pushOf_31 ?_
    refine z_il1 g dX4_pushOf_32 ?_
    refine z_il2 g dX4_pushOf_33 ?_
    refine z_callV2 g ck_X4_lifted q1466 q1468 qs53 cls4 (by assumption) (c_X4_lifted hL hH hM hS hp hq) rfl (Nat.le_of_ble_eq_true rfl) (by omega) (by omega) (by omega) dX4_pushOf_34 (z_ex fun w _ => z_ans1 ?_)
    refine z_il4 g dX4_pushOf_37 ?_
    first | with_reducible refine z_iaddN g dX4_pushOf_39 ?_ | refine z_iadd g dX4_pushOf_39 ?_
    refine z_is6 g dX4_pushOf_40 rfl ?_
    refine z_il6 g dX4_pushOf_42 ?_
    refine z_il3 g dX4_pushOf_44 ?_
    refine z_iconst g dX4_pushOf_45 zki_1 ?_
    refine z_icmp_eq_f (tgt := 54) g dX4_pushOf_46 (by decide) (by decide +kernel) ?_
    refine z_il3 g dX4_pushOf_49 ?_
    refine z_iconst g dX4_pushOf_50 zki_4 ?_
    refine z_icmp_ne_t (tgt := 71) g dX4_pushOf_51 (by decide) (by decide +kernel) ?_
    refine z_iconst g dX4_pushOf_71 zki_0 ?_
    first | with_reducible refine z_iaddN g dX4_pushOf_72 ?_ | refine z_iadd g dX4_pushOf_72 ?_
    refine z_is6 g dX4_pushOf_73 rfl ?_
    refine z_il6 g dX4_pushOf_75 ?_
    refine z_il3 g dX4_pushOf_77 ?_
    refine z_iconst g dX4_pushOf_78 zki_4 ?_
    refine z_icmp_ne_t (tgt := 86) g dX4_pushOf_79 (by decide) (by decide +kernel) ?_
    refine z_iconst g dX4_pushOf_86 zki_0 ?_
    first | with_reducible refine z_iaddN g dX4_pushOf_87 ?_ | refine z_iadd g dX4_pushOf_87 ?_
    refine z_is6 g dX4_pushOf_88 rfl ?_
    refine z_il3 g dX4_pushOf_90 ?_
    refine z_iconst g dX4_pushOf_91 zki_2 ?_
    refine z_icmp_eq_f (tgt := 113) g dX4_pushOf_92 (by decide) (by decide +kernel) ?_
    refine z_il3 g dX4_pushOf_95 ?_
    refine z_iconst g dX4_pushOf_96 zki_5 ?_
    refine z_icmp_ne_t (tgt := 117) g dX4_pushOf_97 (by decide) (by decide +kernel) ?_
    refine z_iconst g dX4_pushOf_117 zki_0 ?_
    refine z_is7 g dX4_pushOf_118 rfl ?_
    refine z_il6 g dX4_pushOf_120 ?_
    refine z_il7 g dX4_pushOf_122 ?_
    refine z_if_eq_t (tgt := 138) g dX4_pushOf_124 (by decide) (by decide +kernel) ?_
    refine z_iconst g dX4_pushOf_138 zki_0 ?_
    first | with_reducible refine z_isubN g dX4_pushOf_139 (by omega) ?_ | refine z_isub g dX4_pushOf_139 ?_
    refine z_is6 g dX4_pushOf_140 rfl ?_
    refine z_il6 g dX4_pushOf_142 ?_
    refine z_il3 g dX4_pushOf_144 ?_
    refine z_iconst g dX4_pushOf_145 zki_3 ?_
    refine z_icmp_eq_t (tgt := 155) g dX4_pushOf_146 (by decide) (by decide +kernel) ?_
    refine z_al0 g dX4_pushOf_155 ?_
    refine zg4_1 g q1243 (Or.inl rfl) (by assumption) dX4_pushOf_156 (by assumption) ?_
    refine z_iconst g dX4_pushOf_159 zki_0 ?_
    refine z_iald (k := 0) g rfl (by assumption) (by omega) (by omega) dX4_pushOf_160 ?_
    refine z_top (show _ = I (t + 1) 0 by rw [zp_n (by omega), zp_n (by omega)]) ?_
    refine z_iconst g dX4_pushOf_161 zki_3 ?_
    refine z_icmp_ge (tgt := 169) g dX4_pushOf_162 (by decide) (fun c162 => ?_) (fun c162 => ?_)
    · skip
      have d162 := Int32.not_lt.mpr c162
      refine z_iconst g dX4_pushOf_169 zki_0 ?_
      first | with_reducible refine z_isubN g dX4_pushOf_170 (by omega) ?_ | refine z_isub g dX4_pushOf_170 ?_
      refine z_is6 g dX4_pushOf_171 rfl ?_
      refine z_il6 g dX4_pushOf_173 ?_
      refine z_il3 g dX4_pushOf_175 ?_
      refine z_bipush g dX4_pushOf_176 zkb_6 ?_
      refine z_icmp_ne_t (tgt := 206) g dX4_pushOf_178 (by decide) (by decide +kernel) ?_
      refine z_iconst g dX4_pushOf_206 zki_0 ?_
      first | with_reducible refine z_iaddN g dX4_pushOf_207 ?_ | refine z_iadd g dX4_pushOf_207 ?_
      refine z_iret g r (by omega) (by omega) dX4_pushOf_208 ?_
      exact ⟨w, trivial, by unfold pushF; simp only [hk]; simp [nI_d, *], rfl, rfl, rfl, rfl, rfl⟩
    · skip
      have d162 := Int32.not_le.mp c162
      refine z_iconst g dX4_pushOf_165 zki_1 ?_
      refine z_goto (tgt := 170) g dX4_pushOf_166 (by decide) ?_
      first | with_reducible refine z_isubN g dX4_pushOf_170 (by omega) ?_ | refine z_isub g dX4_pushOf_170 ?_
      refine z_is6 g dX4_pushOf_171 rfl ?_
      refine z_il6 g dX4_pushOf_173 ?_
      refine z_il3 g dX4_pushOf_175 ?_
      refine z_bipush g dX4_pushOf_176 zkb_6 ?_
      refine z_icmp_ne_t (tgt := 206) g dX4_pushOf_178 (by decide) (by decide +kernel) ?_
      refine z_iconst g dX4_pushOf_206 zki_0 ?_
      first | with_reducible refine z_iaddN g dX4_pushOf_207 ?_ | refine z_iadd g dX4_pushOf_207 ?_
      refine z_iret g r (by omega) (by omega) dX4_pushOf_208 ?_
      exact ⟨w, trivial, by unfold pushF; simp only [hk]; simp [nI_d, *], rfl, rfl, rfl, rfl, rfl⟩
  · skip
    clear hG
    refine z_al0 g dX4_pushOf_0 ?_
    refine zg4_1 g q1243 (Or.inl rfl) (by assumption) dX4_pushOf_1 (by assumption) ?_
    refine z_bipush g dX4_pushOf_4 zkb_12 ?_
    refine z_il1 g dX4_pushOf_6 ?_
    first | with_reducible refine z_iaddN g dX4_pushOf_7 ?_ | refine z_iadd g dX4_pushOf_7 ?_
    refine z_iald (k := 0) g rfl (by assumption) (by omega) (by omega) dX4_pushOf_8 ?_
    refine z_top hk ?_
    refine z_is3 g dX4_pushOf_9 rfl ?_
    refine z_al0 g dX4_pushOf_10 ?_
    refine zg4_1 g q1243 (Or.inl rfl) (by assumption) dX4_pushOf_11 (by assumption) ?_
    refine z_bipush g dX4_pushOf_14 zkb_17 ?_
    refine z_il1 g dX4_pushOf_16 ?_
    first | with_reducible refine z_iaddN g dX4_pushOf_17 ?_ | refine z_iadd g dX4_pushOf_17 ?_
    refine z_iald (k := 0) g rfl (by assumption) (by omega) (by omega) dX4_pushOf_18 ?_
    refine z_is4 g dX4_pushOf_19 rfl ?_
    refine z_al0 g dX4_pushOf_21 ?_
    refine zg4_1 g q1243 (Or.inl rfl) (by assumption) dX4_pushOf_22 (by assumption) ?_
    refine z_iconst g dX4_pushOf_25 zki_1 ?_
    refine z_il1 g dX4_pushOf_26 ?_
    first | with_reducible refine z_iaddN g dX4_pushOf_27 ?_ | refine z_iadd g dX4_pushOf_27 ?_
    refine z_iald (k := 0) g rfl (by assumption) (by omega) (by omega) dX4_pushOf_28 ?_
    refine z_is5 g dX4_pushOf_29 rfl ?_
    refine z_al0 g dX4_pushOf_31 ?_
    refine z_il1 g dX4_pushOf_32 ?_
    refine z_il2 g dX4_pushOf_33 ?_
    refine z_callV2 g ck_X4_lifted q1466 q1468 qs53 cls4 (by assumption) (c_X4_lifted hL hH hM hS hp hq) rfl (Nat.le_of_ble_eq_true rfl) (by omega) (by omega) (by omega) dX4_pushOf_34 (z_ex fun w _ => z_ans1 ?_)
    refine z_il4 g dX4_pushOf_37 ?_
    first | with_reducible refine z_iaddN g dX4_pushOf_39 ?_ | refine z_iadd g dX4_pushOf_39 ?_
    refine z_is6 g dX4_pushOf_40 rfl ?_
    refine z_il6 g dX4_pushOf_42 ?_
    refine z_il3 g dX4_pushOf_44 ?_
    refine z_iconst g dX4_pushOf_45 zki_1 ?_
    refine z_icmp_eq_f (tgt := 54) g dX4_pushOf_46 (by decide) (by decide +kernel) ?_
    refine z_il3 g dX4_pushOf_49 ?_
    refine z_iconst g dX4_pushOf_50 zki_4 ?_
    refine z_icmp_ne_f (tgt := 71) g dX4_pushOf_51 (by decide) (by decide +kernel) ?_
    refine z_il5 g dX4_pushOf_54 ?_
    refine z_al0 g dX4_pushOf_56 ?_
    refine zg4_1 g q1243 (Or.inl rfl) (by assumption) dX4_pushOf_57 (by assumption) ?_
    refine z_iconst g dX4_pushOf_60 zki_1 ?_
    refine z_il2 g dX4_pushOf_61 ?_
    first | with_reducible refine z_iaddN g dX4_pushOf_62 ?_ | refine z_iadd g dX4_pushOf_62 ?_
    refine z_iald (k := 0) g rfl (by assumption) (by omega) (by omega) dX4_pushOf_63 ?_
    refine z_top (show _ = I (t + 1) (1 + q) by rw [zp_n (by omega), zp_n (by omega)]) ?_
    refine z_icmp_ge (tgt := 71) g dX4_pushOf_64 (by decide) (fun c64 => ?_) (fun c64 => ?_)
    · skip
      have d64 := Int32.not_lt.mpr c64
      refine z_iconst g dX4_pushOf_71 zki_0 ?_
      first | with_reducible refine z_iaddN g dX4_pushOf_72 ?_ | refine z_iadd g dX4_pushOf_72 ?_
      refine z_is6 g dX4_pushOf_73 rfl ?_
      refine z_il6 g dX4_pushOf_75 ?_
      refine z_il3 g dX4_pushOf_77 ?_
      refine z_iconst g dX4_pushOf_78 zki_4 ?_
      refine z_icmp_ne_f (tgt := 86) g dX4_pushOf_79 (by decide) (by decide +kernel) ?_
      refine z_iconst g dX4_pushOf_82 zki_1 ?_
      refine z_goto (tgt := 87) g dX4_pushOf_83 (by decide) ?_
      first | with_reducible refine z_iaddN g dX4_pushOf_87 ?_ | refine z_iadd g dX4_pushOf_87 ?_
      refine z_is6 g dX4_pushOf_88 rfl ?_
      refine z_il3 g dX4_pushOf_90 ?_
      refine z_iconst g dX4_pushOf_91 zki_2 ?_
      refine z_icmp_eq_f (tgt := 113) g dX4_pushOf_92 (by decide) (by decide +kernel) ?_
      refine z_il3 g dX4_pushOf_95 ?_
      refine z_iconst g dX4_pushOf_96 zki_5 ?_
      refine z_icmp_ne_t (tgt := 117) g dX4_pushOf_97 (by decide) (by decide +kernel) ?_
      refine z_iconst g dX4_pushOf_117 zki_0 ?_
      refine z_is7 g dX4_pushOf_118 rfl ?_
      refine z_il6 g dX4_pushOf_120 ?_
      refine z_il7 g dX4_pushOf_122 ?_
      refine z_if_eq_t (tgt := 138) g dX4_pushOf_124 (by decide) (by decide +kernel) ?_
      refine z_iconst g dX4_pushOf_138 zki_0 ?_
      first | with_reducible refine z_isubN g dX4_pushOf_139 (by omega) ?_ | refine z_isub g dX4_pushOf_139 ?_
      refine z_is6 g dX4_pushOf_140 rfl ?_
      refine z_il6 g dX4_pushOf_142 ?_
      refine z_il3 g dX4_pushOf_144 ?_
      refine z_iconst g dX4_pushOf_145 zki_3 ?_
      refine z_icmp_eq_f (tgt := 155) g dX4_pushOf_146 (by decide) (by decide +kernel) ?_
      refine z_il3 g dX4_pushOf_149 ?_
      refine z_bipush g dX4_pushOf_150 zkb_6 ?_
      refine z_icmp_ne_t (tgt := 169) g dX4_pushOf_152 (by decide) (by decide +kernel) ?_
      refine z_iconst g dX4_pushOf_169 zki_0 ?_
      first | with_reducible refine z_isubN g dX4_pushOf_170 (by omega) ?_ | refine z_isub g dX4_pushOf_170 ?_
      refine z_is6 g dX4_pushOf_171 rfl ?_
      refine z_il6 g dX4_pushOf_173 ?_
      refine z_il3 g dX4_pushOf_175 ?_
      refine z_bipush g dX4_pushOf_176 zkb_6 ?_
      refine z_icmp_ne_t (tgt := 206) g dX4_pushOf_178 (by decide) (by decide +kernel) ?_
      refine z_iconst g dX4_pushOf_206 zki_0 ?_
      first | with_reducible refine z_iaddN g dX4_pushOf_207 ?_ | refine z_iadd g dX4_pushOf_207 ?_
      refine z_iret g r (by omega) (by omega) dX4_pushOf_208 ?_
      exact ⟨w, trivial, by unfold pushF; simp only [hk]; simp [nI_d, *], rfl, rfl, rfl, rfl, rfl⟩
    · skip
      have d64 := Int32.not_le.mp c64
      refine z_iconst g dX4_pushOf_67 zki_2 ?_
      refine z_goto (tgt := 72) g dX4_pushOf_68 (by decide) ?_
      first | with_reducible refine z_iaddN g dX4_pushOf_72 ?_ | refine z_iadd g dX4_pushOf_72 ?_
      refine z_is6 g dX4_pushOf_73 rfl ?_
      refine z_il6 g dX4_pushOf_75 ?_
      refine z_il3 g dX4_pushOf_77 ?_
      refine z_iconst g dX4_pushOf_78 zki_4 ?_
      refine z_icmp_ne_f (tgt := 86) g dX4_pushOf_79 (by decide) (by decide +kernel) ?_
      refine z_iconst g dX4_pushOf_82 zki_1 ?_
      refine z_goto (tgt := 87) g dX4_pushOf_83 (by decide) ?_
      first | with_reducible refine z_iaddN g dX4_pushOf_87 ?_ | refine z_iadd g dX4_pushOf_87 ?_
      refine z_is6 g dX4_pushOf_88 rfl ?_
      refine z_il3 g dX4_pushOf_90 ?_
      refine z_iconst g dX4_pushOf_91 zki_2 ?_
      refine z_icmp_eq_f (tgt := 113) g dX4_pushOf_92 (by decide) (by decide +kernel) ?_
      refine z_il3 g dX4_pushOf_95 ?_
      refine z_iconst g dX4_pushOf_96 zki_5 ?_
      refine z_icmp_ne_t (tgt := 117) g dX4_pushOf_97 (by decide) (by decide +kernel) ?_
      refine z_iconst g dX4_pushOf_117 zki_0 ?_
      refine z_is7 g dX4_pushOf_118 rfl ?_
      refine z_il6 g dX4_pushOf_120 ?_
      refine z_il7 g dX4_pushOf_122 ?_
      refine z_if_eq_t (tgt := 138) g dX4_pushOf_124 (by decide) (by decide +kernel) ?_
      refine z_iconst g dX4_pushOf_138 zki_0 ?_
      first | with_reducible refine z_isubN g dX4_pushOf_139 (by omega) ?_ | refine z_isub g dX4_pushOf_139 ?_
      refine z_is6 g dX4_pushOf_140 rfl ?_
      refine z_il6 g dX4_pushOf_142 ?_
      refine z_il3 g dX4_pushOf_144 ?_
      refine z_iconst g dX4_pushOf_145 zki_3 ?_
      refine z_icmp_eq_f (tgt := 155) g dX4_pushOf_146 (by decide) (by decide +kernel) ?_
      refine z_il3 g dX4_pushOf_149 ?_
      refine z_bipush g dX4_pushOf_150 zkb_6 ?_
      refine z_icmp_ne_t (tgt := 169) g dX4_pushOf_152 (by decide) (by decide +kernel) ?_
      refine z_iconst g dX4_pushOf_169 zki_0 ?_
      first | with_reducible refine z_isubN g dX4_pushOf_170 (by omega) ?_ | refine z_isub g dX4_pushOf_170 ?_
      refine z_is6 g dX4_pushOf_171 rfl ?_
      refine z_il6 g dX4_pushOf_173 ?_
      refine z_il3 g dX4_pushOf_175 ?_
      refine z_bipush g dX4_pushOf_176 zkb_6 ?_
      refine z_icmp_ne_t (tgt := 206) g dX4_pushOf_178 (by decide) (by decide +kernel) ?_
      refine z_iconst g dX4_pushOf_206 zki_0 ?_
      first | with_reducible refine z_iaddN g dX4_pushOf_207 ?_ | refine z_iadd g dX4_pushOf_207 ?_
      refine z_iret g r (by omega) (by omega) dX4_pushOf_208 ?_
      exact ⟨w, trivial, by unfold pushF; simp only [hk]; simp [nI_d, *], rfl, rfl, rfl, rfl, rfl⟩
  · skip
    clear hG
    refine z_al0 g dX4_pushOf_0 ?_
    refine zg4_1 g q1243 (Or.inl rfl) (by assumption) dX4_pushOf_1 (by assumption) ?_
    refine z_bipush g dX4_pushOf_4 zkb_12 ?_
    refine z_il1 g dX4_pushOf_6 ?_
    first | with_reducible refine z_iaddN g dX4_pushOf_7 ?_ | refine z_iadd g dX4_pushOf_7 ?_
    refine z_iald (k := 0) g rfl (by assumption) (by omega) (by omega) dX4_pushOf_8 ?_
    refine z_top hk ?_
    refine z_is3 g dX4_pushOf_9 rfl ?_
    refine z_al0 g dX4_pushOf_10 ?_
    refine zg4_1 g q1243 (Or.inl rfl) (by assumption) dX4_pushOf_11 (by assumption) ?_
    refine z_bipush g dX4_pushOf_14 zkb_17 ?_
    refine z_il1 g dX4_pushOf_16 ?_
    first | with_reducible refine z_iaddN g dX4_pushOf_17 ?_ | refine z_iadd g dX4_pushOf_17 ?_
    refine z_iald (k := 0) g rfl (by assumption) (by omega) (by omega) dX4_pushOf_18 ?_
    refine z_is4 g dX4_pushOf_19 rfl ?_
    refine z_al0 g dX4_pushOf_21 ?_
    refine zg4_1 g q1243 (Or.inl rfl) (by assumption) dX4_pushOf_22 (by assumption) ?_
    refine z_iconst g dX4_pushOf_25 zki_1 ?_
    refine z_il1 g dX4_pushOf_26 ?_
    first | with_reducible refine z_iaddN g dX4_pushOf_27 ?_ | refine z_iadd g dX4_pushOf_27 ?_
    refine z_iald (k := 0) g rfl (by assumption) (by omega) (by omega) dX4_pushOf_28 ?_
    refine z_is5 g dX4_pushOf_29 rfl ?_
    refine z_al0 g dX4_pushOf_31 ?_
    refine z_il1 g dX4_pushOf_32 ?_
    refine z_il2 g dX4_pushOf_33 ?_
    refine z_callV2 g ck_X4_lifted q1466 q1468 qs53 cls4 (by assumption) (c_X4_lifted hL hH hM hS hp hq) rfl (Nat.le_of_ble_eq_true rfl) (by omega) (by omega) (by omega) dX4_pushOf_34 (z_ex fun w _ => z_ans1 ?_)
    refine z_il4 g dX4_pushOf_37 ?_
    first | with_reducible refine z_iaddN g dX4_pushOf_39 ?_ | refine z_iadd g dX4_pushOf_39 ?_
    refine z_is6 g dX4_pushOf_40 rfl ?_
    refine z_il6 g dX4_pushOf_42 ?_
    refine z_il3 g dX4_pushOf_44 ?_
    refine z_iconst g dX4_pushOf_45 zki_1 ?_
    refine z_icmp_eq_f (tgt := 54) g dX4_pushOf_46 (by decide) (by decide +kernel) ?_
    refine z_il3 g dX4_pushOf_49 ?_
    refine z_iconst g dX4_pushOf_50 zki_4 ?_
    refine z_icmp_ne_t (tgt := 71) g dX4_pushOf_51 (by decide) (by decide +kernel) ?_
    refine z_iconst g dX4_pushOf_71 zki_0 ?_
    first | with_reducible refine z_iaddN g dX4_pushOf_72 ?_ | refine z_iadd g dX4_pushOf_72 ?_
    refine z_is6 g dX4_pushOf_73 rfl ?_
    refine z_il6 g dX4_pushOf_75 ?_
    refine z_il3 g dX4_pushOf_77 ?_
    refine z_iconst g dX4_pushOf_78 zki_4 ?_
    refine z_icmp_ne_t (tgt := 86) g dX4_pushOf_79 (by decide) (by decide +kernel) ?_
    refine z_iconst g dX4_pushOf_86 zki_0 ?_
    first | with_reducible refine z_iaddN g dX4_pushOf_87 ?_ | refine z_iadd g dX4_pushOf_87 ?_
    refine z_is6 g dX4_pushOf_88 rfl ?_
    refine z_il3 g dX4_pushOf_90 ?_
    refine z_iconst g dX4_pushOf_91 zki_2 ?_
    refine z_icmp_eq_f (tgt := 113) g dX4_pushOf_92 (by decide) (by decide +kernel) ?_
    refine z_il3 g dX4_pushOf_95 ?_
    refine z_iconst g dX4_pushOf_96 zki_5 ?_
    refine z_icmp_ne_f (tgt := 117) g dX4_pushOf_97 (by decide) (by decide +kernel) ?_
    refine z_al0 g dX4_pushOf_100 ?_
    refine zg4_1 g q1243 (Or.inl rfl) (by assumption) dX4_pushOf_101 (by assumption) ?_
    refine z_iconst g dX4_pushOf_104 zki_0 ?_
    refine z_iald (k := 0) g rfl (by assumption) (by omega) (by omega) dX4_pushOf_105 ?_
    refine z_top (show _ = I (t + 1) 0 by rw [zp_n (by omega), zp_n (by omega)]) ?_
    refine z_il4 g dX4_pushOf_106 ?_
    refine z_iconst g dX4_pushOf_108 zki_2 ?_
    first | with_reducible refine z_iaddN g dX4_pushOf_109 ?_ | refine z_iadd g dX4_pushOf_109 ?_
    refine z_icmp_ge (tgt := 117) g dX4_pushOf_110 (by decide) (fun c110 => ?_) (fun c110 => ?_)
    · skip
      have d110 := Int32.not_lt.mpr c110
      refine z_iconst g dX4_pushOf_117 zki_0 ?_
      refine z_is7 g dX4_pushOf_118 rfl ?_
      refine z_il6 g dX4_pushOf_120 ?_
      refine z_il7 g dX4_pushOf_122 ?_
      refine z_if_eq_t (tgt := 138) g dX4_pushOf_124 (by decide) (by decide +kernel) ?_
      refine z_iconst g dX4_pushOf_138 zki_0 ?_
      first | with_reducible refine z_isubN g dX4_pushOf_139 (by omega) ?_ | refine z_isub g dX4_pushOf_139 ?_
      refine z_is6 g dX4_pushOf_140 rfl ?_
      refine z_il6 g dX4_pushOf_142 ?_
      refine z_il3 g dX4_pushOf_144 ?_
      refine z_iconst g dX4_pushOf_145 zki_3 ?_
      refine z_icmp_eq_f (tgt := 155) g dX4_pushOf_146 (by decide) (by decide +kernel) ?_
      refine z_il3 g dX4_pushOf_149 ?_
      refine z_bipush g dX4_pushOf_150 zkb_6 ?_
      refine z_icmp_ne_t (tgt := 169) g dX4_pushOf_152 (by decide) (by decide +kernel) ?_
      refine z_iconst g dX4_pushOf_169 zki_0 ?_
      first | with_reducible refine z_isubN g dX4_pushOf_170 (by omega) ?_ | refine z_isub g dX4_pushOf_170 ?_
      refine z_is6 g dX4_pushOf_171 rfl ?_
      refine z_il6 g dX4_pushOf_173 ?_
      refine z_il3 g dX4_pushOf_175 ?_
      refine z_bipush g dX4_pushOf_176 zkb_6 ?_
      refine z_icmp_ne_t (tgt := 206) g dX4_pushOf_178 (by decide) (by decide +kernel) ?_
      refine z_iconst g dX4_pushOf_206 zki_0 ?_
      first | with_reducible refine z_iaddN g dX4_pushOf_207 ?_ | refine z_iadd g dX4_pushOf_207 ?_
      refine z_iret g r (by omega) (by omega) dX4_pushOf_208 ?_
      exact ⟨w, trivial, by unfold pushF; simp only [hk]; simp [nI_d, *], rfl, rfl, rfl, rfl, rfl⟩
    · skip
      have d110 := Int32.not_le.mp c110
      refine z_iconst g dX4_pushOf_113 zki_1 ?_
      refine z_goto (tgt := 118) g dX4_pushOf_114 (by decide) ?_
      refine z_is7 g dX4_pushOf_118 rfl ?_
      refine z_il6 g dX4_pushOf_120 ?_
      refine z_il7 g dX4_pushOf_122 ?_
      refine z_if_eq_f (tgt := 138) g dX4_pushOf_124 (by decide) (by decide +kernel) ?_
      refine z_il5 g dX4_pushOf_127 ?_
      refine z_iconst g dX4_pushOf_129 zki_4 ?_
      refine z_icmp_ge (tgt := 138) g dX4_pushOf_130 (by decide) (fun c130 => ?_) (fun c130 => ?_)
      · skip
        have d130 := Int32.not_lt.mpr c130
        refine z_iconst g dX4_pushOf_138 zki_0 ?_
        first | with_reducible refine z_isubN g dX4_pushOf_139 (by omega) ?_ | refine z_isub g dX4_pushOf_139 ?_
        refine z_is6 g dX4_pushOf_140 rfl ?_
        refine z_il6 g dX4_pushOf_142 ?_
        refine z_il3 g dX4_pushOf_144 ?_
        refine z_iconst g dX4_pushOf_145 zki_3 ?_
        refine z_icmp_eq_f (tgt := 155) g dX4_pushOf_146 (by decide) (by decide +kernel) ?_
        refine z_il3 g dX4_pushOf_149 ?_
        refine z_bipush g dX4_pushOf_150 zkb_6 ?_
        refine z_icmp_ne_t (tgt := 169) g dX4_pushOf_152 (by decide) (by decide +kernel) ?_
        refine z_iconst g dX4_pushOf_169 zki_0 ?_
        first | with_reducible refine z_isubN g dX4_pushOf_170 (by omega) ?_ | refine z_isub g dX4_pushOf_170 ?_
        refine z_is6 g dX4_pushOf_171 rfl ?_
        refine z_il6 g dX4_pushOf_173 ?_
        refine z_il3 g dX4_pushOf_175 ?_
        refine z_bipush g dX4_pushOf_176 zkb_6 ?_
        refine z_icmp_ne_t (tgt := 206) g dX4_pushOf_178 (by decide) (by decide +kernel) ?_
        refine z_iconst g dX4_pushOf_206 zki_0 ?_
        first | with_reducible refine z_iaddN g dX4_pushOf_207 ?_ | refine z_iadd g dX4_pushOf_207 ?_
        refine z_iret g r (by omega) (by omega) dX4_pushOf_208 ?_
        exact ⟨w, trivial, by unfold pushF; simp only [hk]; simp [nI_d, *], rfl, rfl, rfl, rfl, rfl⟩
      · skip
        have d130 := Int32.not_le.mp c130
        refine z_bipush g dX4_pushOf_133 zkb_9 ?_
        refine z_goto (tgt := 139) g dX4_pushOf_135 (by decide) ?_
        first | with_reducible refine z_isubN g dX4_pushOf_139 (by omega) ?_ | refine z_isub g dX4_pushOf_139 ?_
        refine z_is6 g dX4_pushOf_140 rfl ?_
        refine z_il6 g dX4_pushOf_142 ?_
        refine z_il3 g dX4_pushOf_144 ?_
        refine z_iconst g dX4_pushOf_145 zki_3 ?_
        refine z_icmp_eq_f (tgt := 155) g dX4_pushOf_146 (by decide) (by decide +kernel) ?_
        refine z_il3 g dX4_pushOf_149 ?_
        refine z_bipush g dX4_pushOf_150 zkb_6 ?_
        refine z_icmp_ne_t (tgt := 169) g dX4_pushOf_152 (by decide) (by decide +kernel) ?_
        refine z_iconst g dX4_pushOf_169 zki_0 ?_
        first | with_reducible refine z_isubN g dX4_pushOf_170 (by omega) ?_ | refine z_isub g dX4_pushOf_170 ?_
        refine z_is6 g dX4_pushOf_171 rfl ?_
        refine z_il6 g dX4_pushOf_173 ?_
        refine z_il3 g dX4_pushOf_175 ?_
        refine z_bipush g dX4_pushOf_176 zkb_6 ?_
        refine z_icmp_ne_t (tgt := 206) g dX4_pushOf_178 (by decide) (by decide +kernel) ?_
        refine z_iconst g dX4_pushOf_206 zki_0 ?_
        first | with_reducible refine z_iaddN g dX4_pushOf_207 ?_ | refine z_iadd g dX4_pushOf_207 ?_
        refine z_iret g r (by omega) (by omega) dX4_pushOf_208 ?_
        exact ⟨w, trivial, by unfold pushF; simp only [hk]; simp [nI_d, *], rfl, rfl, rfl, rfl, rfl⟩
  · skip
    refine z_al0 g dX4_pushOf_0 ?_
    refine zg4_1 g q1243 (Or.inl rfl) (by assumption) dX4_pushOf_1 (by assumption) ?_
    refine z_bipush g dX4_pushOf_4 zkb_12 ?_
    refine z_il1 g dX4_pushOf_6 ?_
    first | with_reducible refine z_iaddN g dX4_pushOf_7 ?_ | refine z_iadd g dX4_pushOf_7 ?_
    refine z_iald (k := 0) g rfl (by assumption) (by omega) (by omega) dX4_pushOf_8 ?_
    refine z_top hk ?_
    refine z_is3 g dX4_pushOf_9 rfl ?_
    refine z_al0 g dX4_pushOf_10 ?_
    refine zg4_1 g q1243 (Or.inl rfl) (by assumption) dX4_pushOf_11 (by assumption) ?_
    refine z_bipush g dX4_pushOf_14 zkb_17 ?_
    refine z_il1 g dX4_pushOf_16 ?_
    first | with_reducible refine z_iaddN g dX4_pushOf_17 ?_ | refine z_iadd g dX4_pushOf_17 ?_
    refine z_iald (k := 0) g rfl (by assumption) (by omega) (by omega) dX4_pushOf_18 ?_
    refine z_is4 g dX4_pushOf_19 rfl ?_
    refine z_al0 g dX4_pushOf_21 ?_
    refine zg4_1 g q1243 (Or.inl rfl) (by assumption) dX4_pushOf_22 (by assumption) ?_
    refine z_iconst g dX4_pushOf_25 zki_1 ?_
    refine z_il1 g dX4_pushOf_26 ?_
    first | with_reducible refine z_iaddN g dX4_pushOf_27 ?_ | refine z_iadd g dX4_pushOf_27 ?_
    refine z_iald (k := 0) g rfl (by assumption) (by omega) (by omega) dX4_pushOf_28 ?_
    refine z_is5 g dX4_pushOf_29 rfl ?_
    refine z_al0 g dX4_pushOf_31 ?_
    refine z_il1 g dX4_pushOf_32 ?_
    refine z_il2 g dX4_pushOf_33 ?_
    refine z_callV2 g ck_X4_lifted q1466 q1468 qs53 cls4 (by assumption) (c_X4_lifted hL hH hM hS hp hq) rfl (Nat.le_of_ble_eq_true rfl) (by omega) (by omega) (by omega) dX4_pushOf_34 (z_ex fun w _ => z_ans1 ?_)
    refine z_il4 g dX4_pushOf_37 ?_
    first | with_reducible refine z_iaddN g dX4_pushOf_39 ?_ | refine z_iadd g dX4_pushOf_39 ?_
    refine z_is6 g dX4_pushOf_40 rfl ?_
    refine z_il6 g dX4_pushOf_42 ?_
    refine z_il3 g dX4_pushOf_44 ?_
    refine z_iconst g dX4_pushOf_45 zki_1 ?_
    refine z_icmp_eq_f (tgt := 54) g dX4_pushOf_46 (by decide) (by decide +kernel) ?_
    refine z_il3 g dX4_pushOf_49 ?_
    refine z_iconst g dX4_pushOf_50 zki_4 ?_
    refine z_icmp_ne_t (tgt := 71) g dX4_pushOf_51 (by decide) (by decide +kernel) ?_
    refine z_iconst g dX4_pushOf_71 zki_0 ?_
    first | with_reducible refine z_iaddN g dX4_pushOf_72 ?_ | refine z_iadd g dX4_pushOf_72 ?_
    refine z_is6 g dX4_pushOf_73 rfl ?_
    refine z_il6 g dX4_pushOf_75 ?_
    refine z_il3 g dX4_pushOf_77 ?_
    refine z_iconst g dX4_pushOf_78 zki_4 ?_
    refine z_icmp_ne_t (tgt := 86) g dX4_pushOf_79 (by decide) (by decide +kernel) ?_
    refine z_iconst g dX4_pushOf_86 zki_0 ?_
    first | with_reducible refine z_iaddN g dX4_pushOf_87 ?_ | refine z_iadd g dX4_pushOf_87 ?_
    refine z_is6 g dX4_pushOf_88 rfl ?_
    refine z_il3 g dX4_pushOf_90 ?_
    refine z_iconst g dX4_pushOf_91 zki_2 ?_
    refine z_icmp_eq_f (tgt := 113) g dX4_pushOf_92 (by decide) (by decide +kernel) ?_
    refine z_il3 g dX4_pushOf_95 ?_
    refine z_iconst g dX4_pushOf_96 zki_5 ?_
    refine z_icmp_ne_t (tgt := 117) g dX4_pushOf_97 (by decide) (by decide +kernel) ?_
    refine z_iconst g dX4_pushOf_117 zki_0 ?_
    refine z_is7 g dX4_pushOf_118 rfl ?_
    refine z_il6 g dX4_pushOf_120 ?_
    refine z_il7 g dX4_pushOf_122 ?_
    refine z_if_eq_t (tgt := 138) g dX4_pushOf_124 (by decide) (by decide +kernel) ?_
    refine z_iconst g dX4_pushOf_138 zki_0 ?_
    first | with_reducible refine z_isubN g dX4_pushOf_139 (by omega) ?_ | refine z_isub g dX4_pushOf_139 ?_
    refine z_is6 g dX4_pushOf_140 rfl ?_
    refine z_il6 g dX4_pushOf_142 ?_
    refine z_il3 g dX4_pushOf_144 ?_
    refine z_iconst g dX4_pushOf_145 zki_3 ?_
    refine z_icmp_eq_f (tgt := 155) g dX4_pushOf_146 (by decide) (by decide +kernel) ?_
    refine z_il3 g dX4_pushOf_149 ?_
    refine z_bipush g dX4_pushOf_150 zkb_6 ?_
    refine z_icmp_ne_f (tgt := 169) g dX4_pushOf_152 (by decide) (by decide +kernel) ?_
    refine z_al0 g dX4_pushOf_155 ?_
    refine zg4_1 g q1243 (Or.inl rfl) (by assumption) dX4_pushOf_156 (by assumption) ?_
    refine z_iconst g dX4_pushOf_159 zki_0 ?_
    refine z_iald (k := 0) g rfl (by assumption) (by omega) (by omega) dX4_pushOf_160 ?_
    refine z_top (show _ = I (t + 1) 0 by rw [zp_n (by omega), zp_n (by omega)]) ?_
    refine z_iconst g dX4_pushOf_161 zki_3 ?_
    refine z_icmp_ge (tgt := 169) g dX4_pushOf_162 (by decide) (fun c162 => ?_) (fun c162 => ?_)
    · skip
      have d162 := Int32.not_lt.mpr c162
      rw [hG] at c162 d162
      refine z_iconst g dX4_pushOf_169 zki_0 ?_
      first | with_reducible refine z_isubN g dX4_pushOf_170 (by omega) ?_ | refine z_isub g dX4_pushOf_170 ?_
      refine z_is6 g dX4_pushOf_171 rfl ?_
      refine z_il6 g dX4_pushOf_173 ?_
      refine z_il3 g dX4_pushOf_175 ?_
      refine z_bipush g dX4_pushOf_176 zkb_6 ?_
      refine z_icmp_ne_f (tgt := 206) g dX4_pushOf_178 (by decide) (by decide +kernel) ?_
      refine z_al0 g dX4_pushOf_181 ?_
      refine zg4_1 g q1243 (Or.inl rfl) (by assumption) dX4_pushOf_182 (by assumption) ?_
      refine z_bipush g dX4_pushOf_185 zkb_22 ?_
      refine z_iconst g dX4_pushOf_187 zki_4 ?_
      refine z_il1 g dX4_pushOf_188 ?_
      first | with_reducible refine z_imulN g dX4_pushOf_189 ?_ | refine z_imul g dX4_pushOf_189 ?_
      first | with_reducible refine z_iaddN g dX4_pushOf_190 ?_ | refine z_iadd g dX4_pushOf_190 ?_
      refine z_al0 g dX4_pushOf_191 ?_
      refine zg4_1 g q1243 (Or.inl rfl) (by assumption) dX4_pushOf_192 (by assumption) ?_
      refine z_iconst g dX4_pushOf_195 zki_0 ?_
      refine z_iald (k := 0) g rfl (by assumption) (by omega) (by omega) dX4_pushOf_196 ?_
      refine z_top ((show _ = I (t + 1) 0 by rw [zp_n (by omega), zp_n (by omega)]).trans hG) ?_
      refine z_iconst g dX4_pushOf_197 zki_4 ?_
      first | with_reducible refine z_iremN g dX4_pushOf_198 (by omega) (by omega) (by omega) ?_ | refine z_irem g dX4_pushOf_198 (by decide +kernel) ?_
      first | with_reducible refine z_iaddN g dX4_pushOf_199 ?_ | refine z_iadd g dX4_pushOf_199 ?_
      refine z_iald (k := 0) g rfl (by assumption) (by omega) (by omega) dX4_pushOf_200 ?_
      refine z_top (show _ = I (t + 1) (22 + 4 * p + gm % 4) by rw [zp_n (by omega), zp_n (by omega)]) ?_
      refine z_iconst g dX4_pushOf_201 zki_4 ?_
      first | with_reducible refine z_isubN g dX4_pushOf_202 (by omega) ?_ | refine z_isub g dX4_pushOf_202 ?_
      refine z_goto (tgt := 207) g dX4_pushOf_203 (by decide) ?_
      first | with_reducible refine z_iaddN g dX4_pushOf_207 ?_ | refine z_iadd g dX4_pushOf_207 ?_
      refine z_iret g r (by omega) (by omega) dX4_pushOf_208 ?_
      exact ⟨w, trivial, by unfold pushF; simp only [hk, hG, zrem_nI (show gm < 2 ^ 31 by omega) (show 0 < 4 by decide) (show 4 < 2 ^ 31 by decide), cl_nI (show gm % 4 < 2 ^ 31 by omega)]; simp [nI_d, *], rfl, rfl, rfl, rfl, rfl⟩
    · skip
      have d162 := Int32.not_le.mp c162
      rw [hG] at c162 d162
      refine z_iconst g dX4_pushOf_165 zki_1 ?_
      refine z_goto (tgt := 170) g dX4_pushOf_166 (by decide) ?_
      first | with_reducible refine z_isubN g dX4_pushOf_170 (by omega) ?_ | refine z_isub g dX4_pushOf_170 ?_
      refine z_is6 g dX4_pushOf_171 rfl ?_
      refine z_il6 g dX4_pushOf_173 ?_
      refine z_il3 g dX4_pushOf_175 ?_
      refine z_bipush g dX4_pushOf_176 zkb_6 ?_
      refine z_icmp_ne_f (tgt := 206) g dX4_pushOf_178 (by decide) (by decide +kernel) ?_
      refine z_al0 g dX4_pushOf_181 ?_
      refine zg4_1 g q1243 (Or.inl rfl) (by assumption) dX4_pushOf_182 (by assumption) ?_
      refine z_bipush g dX4_pushOf_185 zkb_22 ?_
      refine z_iconst g dX4_pushOf_187 zki_4 ?_
      refine z_il1 g dX4_pushOf_188 ?_
      first | with_reducible refine z_imulN g dX4_pushOf_189 ?_ | refine z_imul g dX4_pushOf_189 ?_
      first | with_reducible refine z_iaddN g dX4_pushOf_190 ?_ | refine z_iadd g dX4_pushOf_190 ?_
      refine z_al0 g dX4_pushOf_191 ?_
      refine zg4_1 g q1243 (Or.inl rfl) (by assumption) dX4_pushOf_192 (by assumption) ?_
      refine z_iconst g dX4_pushOf_195 zki_0 ?_
      refine z_iald (k := 0) g rfl (by assumption) (by omega) (by omega) dX4_pushOf_196 ?_
      refine z_top ((show _ = I (t + 1) 0 by rw [zp_n (by omega), zp_n (by omega)]).trans hG) ?_
      refine z_iconst g dX4_pushOf_197 zki_4 ?_
      first | with_reducible refine z_iremN g dX4_pushOf_198 (by omega) (by omega) (by omega) ?_ | refine z_irem g dX4_pushOf_198 (by decide +kernel) ?_
      first | with_reducible refine z_iaddN g dX4_pushOf_199 ?_ | refine z_iadd g dX4_pushOf_199 ?_
      refine z_iald (k := 0) g rfl (by assumption) (by omega) (by omega) dX4_pushOf_200 ?_
      refine z_top (show _ = I (t + 1) (22 + 4 * p + gm % 4) by rw [zp_n (by omega), zp_n (by omega)]) ?_
      refine z_iconst g dX4_pushOf_201 zki_4 ?_
      first | with_reducible refine z_isubN g dX4_pushOf_202 (by omega) ?_ | refine z_isub g dX4_pushOf_202 ?_
      refine z_goto (tgt := 207) g dX4_pushOf_203 (by decide) ?_
      first | with_reducible refine z_iaddN g dX4_pushOf_207 ?_ | refine z_iadd g dX4_pushOf_207 ?_
      refine z_iret g r (by omega) (by omega) dX4_pushOf_208 ?_
      exact ⟨w, trivial, by unfold pushF; simp only [hk, hG, zrem_nI (show gm < 2 ^ 31 by omega) (show 0 < 4 by decide) (show 4 < 2 ^ 31 by decide), cl_nI (show gm % 4 < 2 ^ 31 by omega)]; simp [nI_d, *], rfl, rfl, rfl, rfl, rfl⟩

set_option maxHeartbeats 4000000 in
theorem c_X4_oddsOf {E : ZE} {n : Nat} {T : ZT} {I : ZI} {L : ZL} {R : ZR} {t : Nat} (hL : TL T R t) (hO : oddOK (I (t + 1))) {p q : Nat} (hp : p < 5) (hq : q < 5) : zM E yX4_oddsOf cX4_oddsOf 4 (some (Jvm.ClassFile.FieldType.int)) 2 0 0 [.ref t, .int (nI p), .int (nI q)] n T I L R (zscr (some (.int (oddsF (I (t + 1)) p q))) n T I (t + 4) (t + 5) L R) := by
  refine zM.of (lv0 := [some (.ref t), some (.int (nI p)), some (.int (nI q)), none]) pn_X4 (Nat.le_of_ble_eq_true rfl) rfl fun G g r hin hlt hbn => ?_
  have g : zGd E G cX4_oddsOf RX4 4 2 0 0 := g
  have hL0 := hL
  obtain ⟨hT, h1, ht1, h2, ht2, h3, ht3, h10, ht4, h11, ht5, ht6, ht7, h16, ht8, h17, ht9, h19, ht10⟩ := hL0
  have hrow : ∀ w : SV × SV, zp (zp I (t + 4) w.1) (t + 5) w.2 (t + 1) = I (t + 1) := fun w => by rw [zp_n (by omega), zp_n (by omega)]
  refine z_iconst g dX4_oddsOf_0 zki_5 ?_
  refine z_al0 g dX4_oddsOf_1 ?_
  refine z_il1 g dX4_oddsOf_2 ?_
  refine z_il2 g dX4_oddsOf_3 ?_
  refine z_callV2 g ck_X4_pushOf q1462 q1464 qs52 cls4 (by assumption) (c_X4_pushOf hL hO hp hq) rfl (Nat.le_of_ble_eq_true rfl) (by omega) (by omega) (by omega) dX4_oddsOf_4 (z_ex fun w _ => z_ans1 ?_)
  first | with_reducible refine z_iaddN g dX4_oddsOf_7 ?_ | refine z_iadd g dX4_oddsOf_7 ?_
  refine z_al0 g dX4_oddsOf_8 ?_
  refine z_il2 g dX4_oddsOf_9 ?_
  refine z_il1 g dX4_oddsOf_10 ?_
  refine z_callV2 g ck_X4_pushOf q1462 q1464 qs52 cls4 (by assumption) (c_X4_pushOf hL (by rw [hrow w]; exact hO) hq hp) rfl (Nat.le_of_ble_eq_true rfl) (by omega) (by omega) (by omega) dX4_oddsOf_11 (z_ex fun u _ => z_ans1 ?_)
  rw [hrow w]
  first | with_reducible refine z_isubN g dX4_oddsOf_14 (by omega) ?_ | refine z_isub g dX4_oddsOf_14 ?_
  refine z_al0 g dX4_oddsOf_15 ?_
  refine zg4_1 g q1243 (Or.inl rfl) (by assumption) dX4_oddsOf_16 (by assumption) ?_
  refine z_iconst g dX4_oddsOf_19 zki_1 ?_
  refine z_il1 g dX4_oddsOf_20 ?_
  first | with_reducible refine z_iaddN g dX4_oddsOf_21 ?_ | refine z_iadd g dX4_oddsOf_21 ?_
  refine z_iald (k := 0) g rfl (by assumption) (by omega) (by omega) dX4_oddsOf_22 ?_
  refine z_top (show _ = I (t + 1) (1 + p) by rw [zp_n (by omega), zp_n (by omega)]; rw [hrow w]) ?_
  refine z_al0 g dX4_oddsOf_23 ?_
  refine zg4_1 g q1243 (Or.inl rfl) (by assumption) dX4_oddsOf_24 (by assumption) ?_
  refine z_iconst g dX4_oddsOf_27 zki_1 ?_
  refine z_il2 g dX4_oddsOf_28 ?_
  first | with_reducible refine z_iaddN g dX4_oddsOf_29 ?_ | refine z_iadd g dX4_oddsOf_29 ?_
  refine z_iald (k := 0) g rfl (by assumption) (by omega) (by omega) dX4_oddsOf_30 ?_
  refine z_top (show _ = I (t + 1) (1 + q) by rw [zp_n (by omega), zp_n (by omega)]; rw [hrow w]) ?_
  first | with_reducible refine z_isubN g dX4_oddsOf_31 (by omega) ?_ | refine z_isub g dX4_oddsOf_31 ?_
  refine z_iconst g dX4_oddsOf_32 zki_2 ?_
  first | with_reducible refine z_idivN g dX4_oddsOf_33 (by omega) (by omega) (by omega) ?_ | refine z_idiv g dX4_oddsOf_33 (by decide +kernel) ?_
  first | with_reducible refine z_iaddN g dX4_oddsOf_34 ?_ | refine z_iadd g dX4_oddsOf_34 ?_
  rw [zscr2 (by omega)]
  refine z_top (show _ = oddsRaw (I (t + 1)) p q from rfl) ?_
  refine z_is3 g dX4_oddsOf_35 rfl ?_
  refine z_il3 g dX4_oddsOf_36 ?_
  refine z_iconst g dX4_oddsOf_37 zki_1 ?_
  refine z_icmp_ge (tgt := 45) g dX4_oddsOf_38 (by decide) (fun c38 => ?_) (fun c38 => ?_)
  · skip
    have d38 := Int32.not_lt.mpr c38
    refine z_il3 g dX4_oddsOf_45 ?_
    refine z_bipush g dX4_oddsOf_46 zkb_9 ?_
    refine z_icmp_le (tgt := 56) g dX4_oddsOf_48 (by decide) (fun c48 => ?_) (fun c48 => ?_)
    · skip
      have d48 := Int32.not_lt.mpr c48
      refine z_il3 g dX4_oddsOf_56 ?_
      refine z_iret g r (by omega) (by omega) dX4_oddsOf_57 ?_
      exact ⟨u, trivial, by simp [oddsF, clampO, *], rfl, rfl, rfl, rfl, rfl⟩
    · skip
      have d48 := Int32.not_le.mp c48
      refine z_bipush g dX4_oddsOf_51 zkb_9 ?_
      refine z_goto (tgt := 57) g dX4_oddsOf_53 (by decide) ?_
      refine z_iret g r (by omega) (by omega) dX4_oddsOf_57 ?_
      exact ⟨u, trivial, by simp [oddsF, clampO, *], rfl, rfl, rfl, rfl, rfl⟩
  · skip
    have d38 := Int32.not_le.mp c38
    refine z_iconst g dX4_oddsOf_41 zki_1 ?_
    refine z_goto (tgt := 57) g dX4_oddsOf_42 (by decide) ?_
    refine z_iret g r (by omega) (by omega) dX4_oddsOf_57 ?_
    exact ⟨u, trivial, by simp [oddsF, clampO, *], rfl, rfl, rfl, rfl, rfl⟩

theorem zscr_id {I : ZI} {a b : Nat} : zp (zp I a (I a)) b (I b) = I := by
  rw [zp_self, zp_self]
set_option maxHeartbeats 4000000 in
theorem c_X4_push {E : ZE} {n : Nat} {T : ZT} {I : ZI} {L : ZL} {R : ZR} {t : Nat} (hL : TL T R t) {np : Nat} (hN : I (t + 1) 6 = nI np) (hnp : np ≤ 5) (hO : oddOK (I (t + 1))) {p q : Int32} : zM E yX4_push cX4_push 3 (some (Jvm.ClassFile.FieldType.int)) 2 0 0 [.ref t, .int p, .int q] n T I L R (zscr (some (.int (pushPF (I (t + 1)) p q))) n T I (t + 4) (t + 5) L R) := by
  refine zM.of (lv0 := [some (.ref t), some (.int p), some (.int q)]) pn_X4 (Nat.le_of_ble_eq_true rfl) rfl fun G g r hin hlt hbn => ?_
  have g : zGd E G cX4_push RX4 3 2 0 0 := g
  have hL0 := hL
  obtain ⟨hT, h1, ht1, h2, ht2, h3, ht3, h10, ht4, h11, ht5, ht6, ht7, h16, ht8, h17, ht9, h19, ht10⟩ := hL0
  refine z_al0 g dX4_push_0 ?_
  refine z_il1 g dX4_push_1 ?_
  refine z_callV1 g ck_X4_isPlayer q1438 q1440 qs50 cls4 (by assumption) (c_X4_isPlayer hL) rfl (Nat.le_of_ble_eq_true rfl) (by omega) (by omega) (by omega) dX4_push_2 (z_ans1 ?_)
  refine z_ifb_eq (tgt := 16) g dX4_push_5 (by decide) (fun c5 => ?_) (fun c5 => ?_)
  · skip
    refine z_sipush g dX4_push_16 zks_m10001 ?_
    refine z_iret g r (by omega) (by omega) dX4_push_19 ?_
    first | exact ⟨(I (t + 4), I (t + 5)), trivial, by first | (simp [pushPF, *]; done) | (simp_all [pushPF]; done), rfl, rfl, zscr_id.symm, rfl, rfl⟩ | exact ⟨w, trivial, by first | (simp [pushPF, *]; done) | (simp_all [pushPF]; done), rfl, rfl, rfl, rfl, rfl⟩
  · skip
    obtain ⟨pn, pn_lt, rfl⟩ := isPl_of c5 hN hnp
    have pnc : (nI pn).toNatClampNeg = pn := cl_nI (by omega)
    refine z_al0 g dX4_push_8 ?_
    refine z_il2 g dX4_push_9 ?_
    refine z_callV1 g ck_X4_isPlayer q1438 q1440 qs50 cls4 (by assumption) (c_X4_isPlayer hL) rfl (Nat.le_of_ble_eq_true rfl) (by omega) (by omega) (by omega) dX4_push_10 (z_ans1 ?_)
    refine z_ifb_ne (tgt := 20) g dX4_push_13 (by decide) (fun c13 => ?_) (fun c13 => ?_)
    · skip
      obtain ⟨qn, qn_lt, rfl⟩ := isPl_of c13 hN hnp
      have qnc : (nI qn).toNatClampNeg = qn := cl_nI (by omega)
      refine z_il1 g dX4_push_20 ?_
      refine z_il2 g dX4_push_21 ?_
      refine z_icmp_ne (tgt := 31) g dX4_push_22 (by decide) (fun c22 => ?_) (fun c22 => ?_)
      · skip
        refine z_al0 g dX4_push_31 ?_
        refine z_il1 g dX4_push_32 ?_
        refine z_il2 g dX4_push_33 ?_
        refine z_callV2 g ck_X4_pushOf q1462 q1464 qs52 cls4 (by assumption) (c_X4_pushOf hL hO (by omega) (by omega)) rfl (Nat.le_of_ble_eq_true rfl) (by omega) (by omega) (by omega) dX4_push_34 (z_ex fun w _ => z_ans1 ?_)
        refine z_iret g r (by omega) (by omega) dX4_push_37 ?_
        first | exact ⟨(I (t + 4), I (t + 5)), trivial, by first | (simp [pushPF, *]; done) | (simp_all [pushPF]; done), rfl, rfl, zscr_id.symm, rfl, rfl⟩ | exact ⟨w, trivial, by first | (simp [pushPF, *]; done) | (simp_all [pushPF]; done), rfl, rfl, rfl, rfl, rfl⟩
      · skip
        refine z_sipush g dX4_push_25 zks_m10002 ?_
        refine z_goto (tgt := 37) g dX4_push_28 (by decide) ?_
        refine z_iret g r (by omega) (by omega) dX4_push_37 ?_
        first | exact ⟨(I (t + 4), I (t + 5)), trivial, by first | (simp [pushPF, *]; done) | (simp_all [pushPF]; done), rfl, rfl, zscr_id.symm, rfl, rfl⟩ | exact ⟨w, trivial, by first | (simp [pushPF, *]; done) | (simp_all [pushPF]; done), rfl, rfl, rfl, rfl, rfl⟩
    · skip
      refine z_sipush g dX4_push_16 zks_m10001 ?_
      refine z_iret g r (by omega) (by omega) dX4_push_19 ?_
      first | exact ⟨(I (t + 4), I (t + 5)), trivial, by first | (simp [pushPF, *]; done) | (simp_all [pushPF]; done), rfl, rfl, zscr_id.symm, rfl, rfl⟩ | exact ⟨w, trivial, by first | (simp [pushPF, *]; done) | (simp_all [pushPF]; done), rfl, rfl, rfl, rfl, rfl⟩

set_option maxHeartbeats 4000000 in
theorem c_X4_odds {E : ZE} {n : Nat} {T : ZT} {I : ZI} {L : ZL} {R : ZR} {t : Nat} (hL : TL T R t) {np : Nat} (hN : I (t + 1) 6 = nI np) (hnp : np ≤ 5) (hO : oddOK (I (t + 1))) {p q : Int32} : zM E yX4_odds cX4_odds 3 (some (Jvm.ClassFile.FieldType.int)) 3 0 0 [.ref t, .int p, .int q] n T I L R (zscr (some (.int (oddsPF (I (t + 1)) p q))) n T I (t + 4) (t + 5) L R) := by
  refine zM.of (lv0 := [some (.ref t), some (.int p), some (.int q)]) pn_X4 (Nat.le_of_ble_eq_true rfl) rfl fun G g r hin hlt hbn => ?_
  have g : zGd E G cX4_odds RX4 3 3 0 0 := g
  have hL0 := hL
  obtain ⟨hT, h1, ht1, h2, ht2, h3, ht3, h10, ht4, h11, ht5, ht6, ht7, h16, ht8, h17, ht9, h19, ht10⟩ := hL0
  refine z_al0 g dX4_odds_0 ?_
  refine z_il1 g dX4_odds_1 ?_
  refine z_callV1 g ck_X4_isPlayer q1438 q1440 qs50 cls4 (by assumption) (c_X4_isPlayer hL) rfl (Nat.le_of_ble_eq_true rfl) (by omega) (by omega) (by omega) dX4_odds_2 (z_ans1 ?_)
  refine z_ifb_eq (tgt := 16) g dX4_odds_5 (by decide) (fun c5 => ?_) (fun c5 => ?_)
  · skip
    refine z_iconst g dX4_odds_16 zki_m1 ?_
    refine z_iret g r (by omega) (by omega) dX4_odds_17 ?_
    first | exact ⟨(I (t + 4), I (t + 5)), trivial, by first | (simp [oddsPF, *]; done) | (simp_all [oddsPF]; done), rfl, rfl, zscr_id.symm, rfl, rfl⟩ | exact ⟨w, trivial, by first | (simp [oddsPF, *]; done) | (simp_all [oddsPF]; done), rfl, rfl, rfl, rfl, rfl⟩
  · skip
    obtain ⟨pn, pn_lt, rfl⟩ := isPl_of c5 hN hnp
    have pnc : (nI pn).toNatClampNeg = pn := cl_nI (by omega)
    refine z_al0 g dX4_odds_8 ?_
    refine z_il2 g dX4_odds_9 ?_
    refine z_callV1 g ck_X4_isPlayer q1438 q1440 qs50 cls4 (by assumption) (c_X4_isPlayer hL) rfl (Nat.le_of_ble_eq_true rfl) (by omega) (by omega) (by omega) dX4_odds_10 (z_ans1 ?_)
    refine z_ifb_ne (tgt := 18) g dX4_odds_13 (by decide) (fun c13 => ?_) (fun c13 => ?_)
    · skip
      obtain ⟨qn, qn_lt, rfl⟩ := isPl_of c13 hN hnp
      have qnc : (nI qn).toNatClampNeg = qn := cl_nI (by omega)
      refine z_il1 g dX4_odds_18 ?_
      refine z_il2 g dX4_odds_19 ?_
      refine z_icmp_ne (tgt := 28) g dX4_odds_20 (by decide) (fun c20 => ?_) (fun c20 => ?_)
      · skip
        refine z_al0 g dX4_odds_28 ?_
        refine z_il1 g dX4_odds_29 ?_
        refine z_il2 g dX4_odds_30 ?_
        refine z_callV2 g ck_X4_oddsOf q1474 q1476 qs54 cls4 (by assumption) (c_X4_oddsOf hL hO (by omega) (by omega)) rfl (Nat.le_of_ble_eq_true rfl) (by omega) (by omega) (by omega) dX4_odds_31 (z_ex fun w _ => z_ans1 ?_)
        refine z_iret g r (by omega) (by omega) dX4_odds_34 ?_
        first | exact ⟨(I (t + 4), I (t + 5)), trivial, by first | (simp [oddsPF, *]; done) | (simp_all [oddsPF]; done), rfl, rfl, zscr_id.symm, rfl, rfl⟩ | exact ⟨w, trivial, by first | (simp [oddsPF, *]; done) | (simp_all [oddsPF]; done), rfl, rfl, rfl, rfl, rfl⟩
      · skip
        refine z_bipush g dX4_odds_23 zkb_m2 ?_
        refine z_goto (tgt := 34) g dX4_odds_25 (by decide) ?_
        refine z_iret g r (by omega) (by omega) dX4_odds_34 ?_
        first | exact ⟨(I (t + 4), I (t + 5)), trivial, by first | (simp [oddsPF, *]; done) | (simp_all [oddsPF]; done), rfl, rfl, zscr_id.symm, rfl, rfl⟩ | exact ⟨w, trivial, by first | (simp [oddsPF, *]; done) | (simp_all [oddsPF]; done), rfl, rfl, rfl, rfl, rfl⟩
    · skip
      refine z_iconst g dX4_odds_16 zki_m1 ?_
      refine z_iret g r (by omega) (by omega) dX4_odds_17 ?_
      first | exact ⟨(I (t + 4), I (t + 5)), trivial, by first | (simp [oddsPF, *]; done) | (simp_all [oddsPF]; done), rfl, rfl, zscr_id.symm, rfl, rfl⟩ | exact ⟨w, trivial, by first | (simp [oddsPF, *]; done) | (simp_all [oddsPF]; done), rfl, rfl, rfl, rfl, rfl⟩

