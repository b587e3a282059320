/-! ===== rows over the memory: fields, arrays, new cells ===== -/
set_option maxRecDepth 100000
/-- what the tables say of a class and of the numbers of its fields -/
def zCls (c : Nat) (C : String) (TT : u_T) (N : Nat) : Prop := zCl[c]? = some (C, TT, N) ∧ (∀ w ∈ u_ws C TT N, w ∈ lw_all) ∧ (∀ k : Nat, k < N → parseFieldDescriptor (TT k).2.2.1 = some (zTy c k)) ∧ (∀ a : Nat, a < N → ∀ b : Nat, b < N → a ≠ b → ((TT a).1, (TT a).2.1) ≠ ((TT b).1, (TT b).2.1)) ∧ (∀ k : Nat, k < N → zval (zkind (zTy c k)) 0 0 none = defaultValue (zTy c k))
theorem zlaid {args : Array Value} {s : State} {C O f d : String} (h : (Cond.lays C O f d).before args s = true ∨ (Cond.laysFinal C O f d).before args s = true) {cf fi : Nat} {kf : Class} {fd : Field} (hi : s.fieldFound? O f d = some (cf, kf, fi, fd)) : ∃ (a : ClassId) (x : Class × Field), s.vm.findClass C = some a ∧ Jmm.declares? s.vm fd.slot (a + 1) a = some x ∧ x.1.name = O ∧ x.2.name = fd.name := by
  rcases h with h | h
  · obtain ⟨c, k, c', k', i, g, ha, hk, hg, -, -, -, -, x, hx, hn1, hn2, -⟩ := Cond.lays_spec h
    cases hi.symm.trans hg
    have ho : s.vm.findClass O = some cf := by
      simp only [Cond.before, Cond.holds, Cond.value, ha, hg, hk] at h
      simp at h
      exact h.1.1.2
    obtain ⟨k2, hk2, hn⟩ := Vm.findClass_spec ho
    have hk3 := (State.fieldFound?_spec hi).1
    cases hk2.symm.trans hk3
    exact ⟨c, x, ha, hx, hn1.trans hn, hn2⟩
  · obtain ⟨c, k, c', k', i, g, ha, hk, hg, -, -, -, ho, -, x, hx, hn1, hn2, -⟩ := Cond.laysFinal_spec h
    cases hi.symm.trans hg
    obtain ⟨k2, hk2, hn⟩ := Vm.findClass_spec ho
    have hk3 := (State.fieldFound?_spec hi).1
    cases hk2.symm.trans hk3
    exact ⟨c, x, ha, hx, hn1.trans hn, hn2⟩
section ZCls
variable {E : ZE} {G : ZG} {cc : ByteArray} {own : String} {nL d K S : Nat}
theorem zGd.ap (g : zGd E G cc own nL d K S) {c : Nat} {C : String} {TT : u_T} {N : Nat} (hc : zCls c C TT N) : ∀ x y : Nat, x < N → y < N → x ≠ y → zdI E c x ≠ zdI E c y := by
  intro x y hx hy hne
  obtain ⟨hr, hin, hty, hnm, -⟩ := hc
  obtain ⟨hS, -⟩ := g.kn hr
  obtain ⟨_, _, _, fa, hia, ea⟩ := hS x hx
  obtain ⟨_, _, _, fb, hib, eb⟩ := hS y hy
  rw [← ea, ← eb]
  obtain ⟨a, u, h1, h2, h3, h4⟩ := zlaid (u_lays (fun w h => g.w h) hin hx) hia
  obtain ⟨b, v, h5, h6, h7, h8⟩ := zlaid (u_lays (fun w h => g.w h) hin hy) hib
  intro e
  cases h1.symm.trans h5
  rw [e] at h2
  cases h2.symm.trans h6
  refine hnm x hx y hy hne ?_
  rw [← (State.fieldFound?_type hia (hty x hx)).1, ← (State.fieldFound?_type hib (hty y hy)).1, ← h4, ← h8]
  exact congrArg (fun z => (z, u.2.name)) (h3.symm.trans h7)
theorem zGd.same (g : zGd E G cc own nL d K S) {ref O nm ds : String} (h : ref = O ∨ Cond.sameField ref O nm ds ∈ lw_all) : ∀ x, (gs G).fieldFound? O nm ds = some x → (gs G).fieldFound? ref nm ds = some x := by
  intro x hx
  rcases h with rfl | h
  · exact hx
  · exact u_same (g.w h) x hx
theorem zGd.recv (g : zGd E G cc own nL d K S) {n : Nat} {T : ZT} {I : ZI} {L : ZL} {R : ZR} {H : Heap} {a c : Nat} {C : String} {TT : u_T} {N : Nat} (hc : zCl[c]? = some (C, TT, N)) (hR : zRep E n T I L R H) (hT : T a = zo c) : ∃ cell : Cell, H[a]? = some cell ∧ cell.vm.isStatics = false ∧ (gs G).vm.findClass C = some cell.cls := by
  obtain ⟨-, r, h1, cell, q1, q2, q3, -⟩ := (hR.2.2.2 a).obj hT
  cases h1.symm.trans hc
  exact ⟨cell, q1, by rw [q3]; rfl, by rw [q2]; exact (g.kn hc).2.1⟩
end ZCls
/-- a field's value changed -/
theorem zRep.fld {E : ZE} {n : Nat} {T : ZT} {I I' : ZI} {L L' : ZL} {R R' : ZR} {H H' : Heap} {a c k N : Nat} {C : String} {TT : u_T} {cell : Cell} {v : Value} (h : zRep E n T I L R H) (hT : T a = zo c) (hr : zCl[c]? = some (C, TT, N)) (hk : k < N) (hap : ∀ x y : Nat, x < N → y < N → x ≠ y → zdI E c x ≠ zdI E c y) (q2 : cell.cls = zdC E c) (q3 : cell.vm = .none) (q4 : ∀ j : Nat, j < N → cell.slots[zdI E c j]? = some (zval (zkind (zTy c j)) (I a j) (L a j) (R a j))) (e1 : H'[a]? = some (cell.setSlot (zdI E c k) v)) (e2 : H'.size = H.size) (e3 : ∀ q : Nat, q ≠ a → H'[q]? = H[q]?) (hrow : ∀ b : Nat, b ≠ a → I' b = I b ∧ L' b = L b ∧ R' b = R b) (hself : ∀ j : Nat, zval (zkind (zTy c j)) (I' a j) (L' a j) (R' a j) = if j = k then v else zval (zkind (zTy c j)) (I a j) (L a j) (R a j)) : zRep E n T I' L' R' H' := by
  have hb := ((h.2.2.2 a).obj hT).1
  refine h.put hb e2 e3 hrow (zat.mkO hT ⟨hb, _, hr, _, e1, q2, q3, fun j hj => ?_⟩)
  rw [t_set q4 hap hk v j hj]
  show some (updV _ k v j) = some (zval (zkind (zTy c j)) (I' a j) (L' a j) (R' a j))
  rw [hself j]
  rfl
/-- an array's place changed -/
theorem zRep.elt {E : ZE} {n : Nat} {T : ZT} {I I' : ZI} {L L' : ZL} {R R' : ZR} {H H' : Heap} {a k m j : Nat} {t : FieldType} {v : Value} (h : zRep E n T I L R H) (hT : T a = za k m) (hk : zAr[k]? = some t) (h8 : k < 8) (e1 : H'[a]? = some ((arrV (zdA E k) m (fun j => zval (zkind t) (I a j) (L a j) (R a j))).setSlot j v)) (e2 : H'.size = H.size) (e3 : ∀ q : Nat, q ≠ a → H'[q]? = H[q]?) (hrow : ∀ b : Nat, b ≠ a → I' b = I b ∧ L' b = L b ∧ R' b = R b) (hself : ∀ i : Nat, zval (zkind t) (I' a i) (L' a i) (R' a i) = if i = j then v else zval (zkind t) (I a i) (L a i) (R a i)) : zRep E n T I' L' R' H' := by
  have hb := ((h.2.2.2 a).arr hT).1 h8
  refine h.put hb e2 e3 hrow (zat.mkA hT ⟨fun _ => hb, t, hk, ?_⟩)
  rw [e1, arrV_store]
  congr 2
  funext i
  exact (hself i).symm
theorem zrow1 {α : Type} {f : Nat → α} {a : Nat} {v : α} : ∀ b : Nat, b ≠ a → zp f a v b = f b := fun b h => zp_n h
theorem zval_i (k : Nat) (f : Nat → Nat → Int32) (a j i : Nat) (x : Int32) (l : Int64) (r : Option Nat) (hk : i = j → k = 0) : zval k (zp f a (zp (f a) j x) a i) l r = if i = j then .int x else zval k (f a i) l r := by
  rw [zp_s]
  by_cases e : i = j
  · rw [if_pos e, hk e, e, zp_s]; rfl
  · rw [if_neg e, zp_n e]
theorem zval_l (k : Nat) (f : Nat → Nat → Int64) (a j i : Nat) (x : Int64) (l : Int32) (r : Option Nat) (hk : i = j → k = 1) : zval k l (zp f a (zp (f a) j x) a i) r = if i = j then .long x else zval k l (f a i) r := by
  rw [zp_s]
  by_cases e : i = j
  · rw [if_pos e, hk e, e, zp_s]; rfl
  · rw [if_neg e, zp_n e]
theorem zval_r (k : Nat) (f : Nat → Nat → Option Nat) (a j i : Nat) (x : Option Nat) (l : Int32) (r : Int64) (hk : i = j → k = 2) : zval k l r (zp f a (zp (f a) j x) a i) = if i = j then va_rf x else zval k l r (f a i) := by
  rw [zp_s]
  by_cases e : i = j
  · rw [if_pos e, hk e, e, zp_s]; rfl
  · rw [if_neg e, zp_n e]
section ZMem
variable {E : ZE} {G : ZG} {cc : ByteArray} {own : String} {nL d K S kc ks n : Nat} {T : ZT} {I : ZI} {L : ZL} {R : ZR} {pc : Nat} {lv : List (Option Value)} {st : List Value}
theorem z_get {c N k a index : Nat} {C ref : String} {TT : u_T} (g : zGd E G cc own nL d K S) (hc : zCls c C TT N) (hk : k < N) (hl : Cond.fieldLink own index ref (TT k).2.1 (TT k).2.2.1 ∈ lw_all) (hs : ref = (TT k).1 ∨ Cond.sameField ref (TT k).1 (TT k).2.1 (TT k).2.2.1 ∈ lw_all) (hT : T a = zo c) (hd : decode cc pc = .ok (.getfield index, 3)) (kk : Z E G kc ks n T I L R (pc + 3) lv (zval (zkind (zTy c k)) (I a k) (L a k) (R a k) :: st)) : Z E G kc ks n T I L R pc lv (.ref a :: st) := fun H locs ls hR hL hlv => by
  obtain ⟨-, r, h1, cell, q1, q2, q3, q4⟩ := (hR.2.2.2 a).obj hT
  cases h1.symm.trans hc.1
  obtain ⟨hS, hfc, kC, hkC, hkind⟩ := g.kn hc.1
  obtain ⟨cf, kf, fi, f, hi, hsl⟩ := hS k hk
  refine W.getf g.x g.b g.ow (g.w hl) (g.same hs _ hi) (u_facts hfc hkC (u_lays (fun w h => g.w h) hc.2.1 hk) hi).1 q1 (by rw [q3]; exact fun h => by cases h) ?_ rfl rfl hd (kk H locs ls hR hL hlv)
  rw [hsl]
  exact q4 k hk
theorem z_getN {c N k a index : Nat} {C ref host : String} {TT : u_T} (g : zGd E G cc own nL d K S) (hc : zCls c C TT N) (hk : k < N) (hl : Cond.fieldLinkNest own index ref (TT k).2.1 (TT k).2.2.1 host ∈ lw_tbl) (hs : ref = (TT k).1 ∨ Cond.sameField ref (TT k).1 (TT k).2.1 (TT k).2.2.1 ∈ lw_all) (hT : T a = zo c) (hd : decode cc pc = .ok (.getfield index, 3)) (kk : Z E G kc ks n T I L R (pc + 3) lv (zval (zkind (zTy c k)) (I a k) (L a k) (R a k) :: st)) : Z E G kc ks n T I L R pc lv (.ref a :: st) := fun H locs ls hR hL hlv => by
  obtain ⟨-, r, h1, cell, q1, q2, q3, q4⟩ := (hR.2.2.2 a).obj hT
  cases h1.symm.trans hc.1
  obtain ⟨hS, hfc, kC, hkC, hkind⟩ := g.kn hc.1
  obtain ⟨cf, kf, fi, f, hi, hsl⟩ := hS k hk
  refine va_Wgetf g.x g.b g.ow (va_Nw.use rfl (g.wF hl)) (g.same hs _ hi) (u_facts hfc hkC (u_lays (fun w h => g.w h) hc.2.1 hk) hi).1 q1 (by rw [q3]; exact fun h => by cases h) ?_ rfl rfl hd (kk H locs ls hR hL hlv)
  rw [hsl]
  exact q4 k hk
/-- a field written: the memory behind it is I' L' R' -/
theorem z_put {c N k a index : Nat} {C ref : String} {TT : u_T} {v : Value} (I' : ZI) (L' : ZL) (R' : ZR) (g : zGd E G cc own nL d K S) (hc : zCls c C TT N) (hk : k < N) (hl : Cond.fieldLink own index ref (TT k).2.1 (TT k).2.2.1 ∈ lw_all) (hs : ref = (TT k).1 ∨ Cond.sameField ref (TT k).1 (TT k).2.1 (TT k).2.2.1 ∈ lw_all) (hfin : (TT k).2.2.2 = false ∨ ((TT k).2.2.2 = true ∧ (gM G).name = "<init>" ∧ (TT k).1 = own)) (hn : narrow (zTy c k) v = v) (hfit : fits (zTy c k) v = true) (hT : T a = zo c) (hd : decode cc pc = .ok (.putfield index, 3)) (hrow : ∀ b : Nat, b ≠ a → I' b = I b ∧ L' b = L b ∧ R' b = R b) (hself : ∀ j : Nat, zval (zkind (zTy c j)) (I' a j) (L' a j) (R' a j) = if j = k then v else zval (zkind (zTy c j)) (I a j) (L a j) (R a j)) (kk : Z E G kc ks n T I' L' R' (pc + 3) lv st) : Z E G kc ks n T I L R pc lv (v :: .ref a :: st) := fun H locs ls hR hL hlv => by
  obtain ⟨hb, r, h1, cell, q1, q2, q3, q4⟩ := (hR.2.2.2 a).obj hT
  cases h1.symm.trans hc.1
  obtain ⟨hS, hfc, kC, hkC, hkind⟩ := g.kn hc.1
  obtain ⟨cf, kf, fi, f, hi, hsl⟩ := hS k hk
  have hst := (u_facts hfc hkC (u_lays (fun w h => g.w h) hc.2.1 hk) hi).1
  have hlay := g.w (hc.2.1 _ (u_in_lay hk))
  unfold u_lay at hlay
  have hL' : ∀ q ∈ locs ++ [⟨a, f.slot⟩], zBase E ≤ q.base := fun q hq => by
    rcases List.mem_append.mp hq with h | h
    · exact hL q h
    · rw [List.mem_singleton.mp h]
      exact hb
  rcases hfin with hfin | ⟨hfin, hin2, hdecl⟩
  · rw [if_neg (by rw [hfin]; decide)] at hlay
    have h6 := u_store hfc hkC hkind hlay hi (hc.2.2.1 k hk) hn hfit
    refine W.putK g.x g.b (f := f) ⟨g.ow, g.w hl, ⟨_, _, _, g.same hs _ hi⟩, hst⟩ (by rw [q2]; exact h6) q1 q3 (by rw [hsl]; exact k2_hasslot (q4 k hk)) rfl rfl hd fun H' e1 e2 e3 => ?_
    rw [hsl] at e1
    exact kk H' _ ls (hR.fld hT hc.1 hk (g.ap hc) q2 q3 q4 e1 e2 e3 hrow hself) hL' hlv
  · rw [if_pos hfin] at hlay
    have hcf : (gm G).cls = cf := by
      obtain ⟨_, _, c', _, _, _, -, -, hf', -, -, -, hown2, -⟩ := Cond.laysFinal_spec hlay
      cases hi.symm.trans hf'
      rw [hdecl] at hown2
      exact Option.some.inj (g.ow.symm.trans hown2)
    have h6 := u_fits hfc hkC hkind (Or.inr hlay) hi (hc.2.2.1 k hk) hn hfit
    refine W.putFinK g.x g.b g.ow (g.w hl) (g.same hs _ hi) hst hcf hin2 (by rw [q2]; exact h6) q1 q3 (by rw [hsl]; exact k2_hasslot (q4 k hk)) rfl rfl hd fun H' e1 e2 e3 => ?_
    rw [hsl] at e1
    exact kk H' _ ls (hR.fld hT hc.1 hk (g.ap hc) q2 q3 q4 e1 e2 e3 hrow hself) hL' hlv
theorem z_putN {c N k a index : Nat} {C ref host : String} {TT : u_T} {v : Value} (I' : ZI) (L' : ZL) (R' : ZR) (g : zGd E G cc own nL d K S) (hc : zCls c C TT N) (hk : k < N) (hl : Cond.fieldLinkNest own index ref (TT k).2.1 (TT k).2.2.1 host ∈ lw_tbl) (hs : ref = (TT k).1 ∨ Cond.sameField ref (TT k).1 (TT k).2.1 (TT k).2.2.1 ∈ lw_all) (hfin : (TT k).2.2.2 = false) (hn : narrow (zTy c k) v = v) (hfit : fits (zTy c k) v = true) (hT : T a = zo c) (hd : decode cc pc = .ok (.putfield index, 3)) (hrow : ∀ b : Nat, b ≠ a → I' b = I b ∧ L' b = L b ∧ R' b = R b) (hself : ∀ j : Nat, zval (zkind (zTy c j)) (I' a j) (L' a j) (R' a j) = if j = k then v else zval (zkind (zTy c j)) (I a j) (L a j) (R a j)) (kk : Z E G kc ks n T I' L' R' (pc + 3) lv st) : Z E G kc ks n T I L R pc lv (v :: .ref a :: st) := fun H locs ls hR hL hlv => by
  obtain ⟨hb, r, h1, cell, q1, q2, q3, q4⟩ := (hR.2.2.2 a).obj hT
  cases h1.symm.trans hc.1
  obtain ⟨hS, hfc, kC, hkC, hkind⟩ := g.kn hc.1
  obtain ⟨cf, kf, fi, f, hi, hsl⟩ := hS k hk
  have hst := (u_facts hfc hkC (u_lays (fun w h => g.w h) hc.2.1 hk) hi).1
  have hlay := g.w (hc.2.1 _ (u_in_lay hk))
  unfold u_lay at hlay
  rw [if_neg (by rw [hfin]; decide)] at hlay
  have h6 := u_store hfc hkC hkind hlay hi (hc.2.2.1 k hk) hn hfit
  refine va_WputK g.x g.b (f := f) g.ow (va_Nw.use rfl (g.wF hl)) (g.same hs _ hi) hst (by rw [q2]; exact h6) q1 q3 (by rw [hsl]; exact k2_hasslot (q4 k hk)) rfl rfl hd fun H' e1 e2 e3 => ?_
  rw [hsl] at e1
  exact kk H' _ ls (hR.fld hT hc.1 hk (g.ap hc) q2 q3 q4 e1 e2 e3 hrow hself) (fun q hq => by
    rcases List.mem_append.mp hq with h | h
    · exact hL q h
    · rw [List.mem_singleton.mp h]
      exact hb) hlv
/-! arrays read -/
theorem z_alen {k m a : Nat} (g : zGd E G cc own nL d K S) (hT : T a = za k m) (hd : decode cc pc = .ok (.arraylength, 1)) (kk : Z E G kc ks n T I L R (pc + 1) lv (.int (nI m) :: st)) : Z E G kc ks n T I L R pc lv (.ref a :: st) := fun H locs ls hR hL hlv => by
  obtain ⟨-, t, h1, h2⟩ := (hR.2.2.2 a).arr hT
  exact W.alen (n := nI m) g.x g.b h2 ((g.ak h1).1 m _) (by rw [arrV_size]; rfl) rfl rfl hd (kk H locs ls hR hL hlv)
theorem z_iald {k m a j : Nat} (g : zGd E G cc own nL d K S) (hk : zAr[k]? = some .int) (hT : T a = za k m) (hj : j < m) (hm : m < 2 ^ 31) (hd : decode cc pc = .ok (.iaload, 1)) (kk : Z E G kc ks n T I L R (pc + 1) lv (.int (I a j) :: st)) : Z E G kc ks n T I L R pc lv (.int (nI j) :: .ref a :: st) := fun H locs ls hR hL hlv => by
  obtain ⟨-, t', h1, h2⟩ := (hR.2.2.2 a).arr hT
  cases h1.symm.trans hk
  exact W.iald (v := .int (I a j)) g.x g.b h2 ((g.ak hk).1 m _) (fun q => by cases q) (by rw [arrV_size]; exact nI_in hj hm) (by rw [nI_clamp (Nat.lt_trans hj hm), arrV_read _ _ hj]; rfl) rfl rfl hd (kk H locs ls hR hL hlv)
theorem z_bald {k m a j : Nat} (g : zGd E G cc own nL d K S) (hk : zAr[k]? = some .byte) (hT : T a = za k m) (hj : j < m) (hm : m < 2 ^ 31) (hd : decode cc pc = .ok (.baload, 1)) (kk : Z E G kc ks n T I L R (pc + 1) lv (.int (I a j) :: st)) : Z E G kc ks n T I L R pc lv (.int (nI j) :: .ref a :: st) := fun H locs ls hR hL hlv => by
  obtain ⟨-, t', h1, h2⟩ := (hR.2.2.2 a).arr hT
  cases h1.symm.trans hk
  exact W.bald (v := .int (I a j)) g.x g.b h2 ((g.ak hk).1 m _) (fun q => by cases q) (by rw [arrV_size]; exact nI_in hj hm) (by rw [nI_clamp (Nat.lt_trans hj hm), arrV_read _ _ hj]; rfl) rfl rfl hd (kk H locs ls hR hL hlv)
theorem z_zald {k m a j : Nat} (g : zGd E G cc own nL d K S) (hk : zAr[k]? = some .boolean) (hT : T a = za k m) (hj : j < m) (hm : m < 2 ^ 31) (hd : decode cc pc = .ok (.baload, 1)) (kk : Z E G kc ks n T I L R (pc + 1) lv (.int (I a j) :: st)) : Z E G kc ks n T I L R pc lv (.int (nI j) :: .ref a :: st) := fun H locs ls hR hL hlv => by
  obtain ⟨-, t', h1, h2⟩ := (hR.2.2.2 a).arr hT
  cases h1.symm.trans hk
  exact W.zald (v := .int (I a j)) g.x g.b h2 ((g.ak hk).1 m _) (fun q => by cases q) (by rw [arrV_size]; exact nI_in hj hm) (by rw [nI_clamp (Nat.lt_trans hj hm), arrV_read _ _ hj]; rfl) rfl rfl hd (kk H locs ls hR hL hlv)
theorem z_cald {k m a j : Nat} (g : zGd E G cc own nL d K S) (hk : zAr[k]? = some .char) (hT : T a = za k m) (hj : j < m) (hm : m < 2 ^ 31) (hd : decode cc pc = .ok (.caload, 1)) (kk : Z E G kc ks n T I L R (pc + 1) lv (.int (I a j) :: st)) : Z E G kc ks n T I L R pc lv (.int (nI j) :: .ref a :: st) := fun H locs ls hR hL hlv => by
  obtain ⟨-, t', h1, h2⟩ := (hR.2.2.2 a).arr hT
  cases h1.symm.trans hk
  exact W.cald (v := .int (I a j)) g.x g.b h2 ((g.ak hk).1 m _) (fun q => by cases q) (by rw [arrV_size]; exact nI_in hj hm) (by rw [nI_clamp (Nat.lt_trans hj hm), arrV_read _ _ hj]; rfl) rfl rfl hd (kk H locs ls hR hL hlv)
theorem z_lald {k m a j : Nat} (g : zGd E G cc own nL d K S) (hk : zAr[k]? = some .long) (hT : T a = za k m) (hj : j < m) (hm : m < 2 ^ 31) (hd : decode cc pc = .ok (.laload, 1)) (kk : Z E G kc ks n T I L R (pc + 1) lv (.long (L a j) :: st)) : Z E G kc ks n T I L R pc lv (.int (nI j) :: .ref a :: st) := fun H locs ls hR hL hlv => by
  obtain ⟨-, t', h1, h2⟩ := (hR.2.2.2 a).arr hT
  cases h1.symm.trans hk
  exact W.lald (v := .long (L a j)) g.x g.b h2 ((g.ak hk).1 m _) (fun q => by cases q) (by rw [arrV_size]; exact nI_in hj hm) (by rw [nI_clamp (Nat.lt_trans hj hm), arrV_read _ _ hj]; rfl) rfl rfl hd (kk H locs ls hR hL hlv)
theorem z_aald {k m a j : Nat} {t : FieldType} (g : zGd E G cc own nL d K S) (hk : zAr[k]? = some t) (ht : t.isReference = true ∧ zkind t = 2) (hT : T a = za k m) (hj : j < m) (hm : m < 2 ^ 31) (hd : decode cc pc = .ok (.aaload, 1)) (kk : Z E G kc ks n T I L R (pc + 1) lv (va_rf (R a j) :: st)) : Z E G kc ks n T I L R pc lv (.int (nI j) :: .ref a :: st) := fun H locs ls hR hL hlv => by
  obtain ⟨-, t', h1, h2⟩ := (hR.2.2.2 a).arr hT
  cases h1.symm.trans hk
  exact W.aald (v := va_rf (R a j)) g.x g.b h2 ((g.ak hk).1 m _) ht.1 (fun q => by cases q) (by rw [arrV_size]; exact nI_in hj hm) (by rw [nI_clamp (Nat.lt_trans hj hm), arrV_read _ _ hj, ht.2]; rfl) rfl rfl hd (kk H locs ls hR hL hlv)
/-! arrays written -/
theorem z_iast {k m a j : Nat} {x : Int32} (g : zGd E G cc own nL d K S) (hk : zAr[k]? = some .int) (h8 : k < 8) (hT : T a = za k m) (hj : j < m) (hm : m < 2 ^ 31) (hd : decode cc pc = .ok (.iastore, 1)) (kk : Z E G kc ks n T (zp I a (zp (I a) j x)) L R (pc + 1) lv st) : Z E G kc ks n T I L R pc lv (.int x :: .int (nI j) :: .ref a :: st) := fun H locs ls hR hL hlv => by
  obtain ⟨hb, t', h1, h2⟩ := (hR.2.2.2 a).arr hT
  cases h1.symm.trans hk
  have hcl := nI_clamp (Nat.lt_trans hj hm)
  refine W.iast g.x g.b h2 ((g.ak hk).1 m _) (fun h => by cases h) (by rw [arrV_size]; exact nI_in hj hm) rfl rfl hd fun H' e1 e2 e3 => ?_
  rw [hcl] at e1
  rw [hcl]
  exact kk H' _ ls (hR.elt hT hk h8 e1 e2 e3 (fun b h => ⟨zp_n h, rfl, rfl⟩) (fun i => zval_i _ I a j i x _ _ (fun _ => rfl))) (fun q hq => by
    rcases List.mem_append.mp hq with h | h
    · exact hL q h
    · rw [List.mem_singleton.mp h]
      exact hb h8) hlv
theorem z_bast {k m a j : Nat} {x : Int32} (g : zGd E G cc own nL d K S) (hk : zAr[k]? = some .byte) (h8 : k < 8) (hT : T a = za k m) (hj : j < m) (hm : m < 2 ^ 31) (hn : narrow .byte (.int x) = .int x) (hd : decode cc pc = .ok (.bastore, 1)) (kk : Z E G kc ks n T (zp I a (zp (I a) j x)) L R (pc + 1) lv st) : Z E G kc ks n T I L R pc lv (.int x :: .int (nI j) :: .ref a :: st) := fun H locs ls hR hL hlv => by
  obtain ⟨hb, t', h1, h2⟩ := (hR.2.2.2 a).arr hT
  cases h1.symm.trans hk
  have hcl := nI_clamp (Nat.lt_trans hj hm)
  refine W.bast g.x g.b h2 ((g.ak hk).1 m _) (fun h => by cases h) (by rw [arrV_size]; exact nI_in hj hm) rfl rfl hd fun H' e1 e2 e3 => ?_
  rw [hcl, hn] at e1
  rw [hcl]
  exact kk H' _ ls (hR.elt hT hk h8 e1 e2 e3 (fun b h => ⟨zp_n h, rfl, rfl⟩) (fun i => zval_i _ I a j i x _ _ (fun _ => rfl))) (fun q hq => by
    rcases List.mem_append.mp hq with h | h
    · exact hL q h
    · rw [List.mem_singleton.mp h]
      exact hb h8) hlv
theorem z_zast {k m a j : Nat} {x : Int32} (g : zGd E G cc own nL d K S) (hk : zAr[k]? = some .boolean) (h8 : k < 8) (hT : T a = za k m) (hj : j < m) (hm : m < 2 ^ 31) (hn : narrow .boolean (.int x) = .int x) (hd : decode cc pc = .ok (.bastore, 1)) (kk : Z E G kc ks n T (zp I a (zp (I a) j x)) L R (pc + 1) lv st) : Z E G kc ks n T I L R pc lv (.int x :: .int (nI j) :: .ref a :: st) := fun H locs ls hR hL hlv => by
  obtain ⟨hb, t', h1, h2⟩ := (hR.2.2.2 a).arr hT
  cases h1.symm.trans hk
  have hcl := nI_clamp (Nat.lt_trans hj hm)
  refine W.zast g.x g.b h2 ((g.ak hk).1 m _) (fun h => by cases h) (by rw [arrV_size]; exact nI_in hj hm) rfl rfl hd fun H' e1 e2 e3 => ?_
  rw [hcl, hn] at e1
  rw [hcl]
  exact kk H' _ ls (hR.elt hT hk h8 e1 e2 e3 (fun b h => ⟨zp_n h, rfl, rfl⟩) (fun i => zval_i _ I a j i x _ _ (fun _ => rfl))) (fun q hq => by
    rcases List.mem_append.mp hq with h | h
    · exact hL q h
    · rw [List.mem_singleton.mp h]
      exact hb h8) hlv
theorem z_cast {k m a j : Nat} {x : Int32} (g : zGd E G cc own nL d K S) (hk : zAr[k]? = some .char) (h8 : k < 8) (hT : T a = za k m) (hj : j < m) (hm : m < 2 ^ 31) (hn : narrow .char (.int x) = .int x) (hd : decode cc pc = .ok (.castore, 1)) (kk : Z E G kc ks n T (zp I a (zp (I a) j x)) L R (pc + 1) lv st) : Z E G kc ks n T I L R pc lv (.int x :: .int (nI j) :: .ref a :: st) := fun H locs ls hR hL hlv => by
  obtain ⟨hb, t', h1, h2⟩ := (hR.2.2.2 a).arr hT
  cases h1.symm.trans hk
  have hcl := nI_clamp (Nat.lt_trans hj hm)
  refine W.cast g.x g.b h2 ((g.ak hk).1 m _) (fun h => by cases h) (by rw [arrV_size]; exact nI_in hj hm) rfl rfl hd fun H' e1 e2 e3 => ?_
  rw [hcl, hn] at e1
  rw [hcl]
  exact kk H' _ ls (hR.elt hT hk h8 e1 e2 e3 (fun b h => ⟨zp_n h, rfl, rfl⟩) (fun i => zval_i _ I a j i x _ _ (fun _ => rfl))) (fun q hq => by
    rcases List.mem_append.mp hq with h | h
    · exact hL q h
    · rw [List.mem_singleton.mp h]
      exact hb h8) hlv
theorem z_last {k m a j : Nat} {x : Int64} (g : zGd E G cc own nL d K S) (hk : zAr[k]? = some .long) (h8 : k < 8) (hT : T a = za k m) (hj : j < m) (hm : m < 2 ^ 31) (hd : decode cc pc = .ok (.lastore, 1)) (kk : Z E G kc ks n T I (zp L a (zp (L a) j x)) R (pc + 1) lv st) : Z E G kc ks n T I L R pc lv (.long x :: .int (nI j) :: .ref a :: st) := fun H locs ls hR hL hlv => by
  obtain ⟨hb, t', h1, h2⟩ := (hR.2.2.2 a).arr hT
  cases h1.symm.trans hk
  have hcl := nI_clamp (Nat.lt_trans hj hm)
  refine W.last g.x g.b h2 ((g.ak hk).1 m _) (fun h => by cases h) (by rw [arrV_size]; exact nI_in hj hm) rfl rfl hd fun H' e1 e2 e3 => ?_
  rw [hcl] at e1
  rw [hcl]
  exact kk H' _ ls (hR.elt hT hk h8 e1 e2 e3 (fun b h => ⟨rfl, zp_n h, rfl⟩) (fun i => zval_l _ L a j i x _ _ (fun _ => rfl))) (fun q hq => by
    rcases List.mem_append.mp hq with h | h
    · exact hL q h
    · rw [List.mem_singleton.mp h]
      exact hb h8) hlv
theorem z_aastC {k m a j v : Nat} {t : FieldType} (g : zGd E G cc own nL d K S) (hk : zAr[k]? = some t) (h8 : k < 8) (ht : t.isReference = true ∧ zkind t = 2) (hT : T a = za k m) (hj : j < m) (hm : m < 2 ^ 31)
    (hv : ∀ H : Heap, zRep E n T I L R H → ∃ (kA : Class) (comp : ClassId) (kcomp : Class) (cv : Cell) (kv : Class), (gs G).vm.classes[zdA E k]? = some kA ∧ kA.kind = .array comp t ∧ (gs G).vm.classes[comp]? = some kcomp ∧ H[v]? = some cv ∧ cv.vm = .none ∧ (gs G).vm.classes[cv.cls]? = some kv ∧ (gs G).vm.assignable cv.cls comp = true)
    (hd : decode cc pc = .ok (.aastore, 1)) (kk : Z E G kc ks n T I L (zp R a (zp (R a) j (some v))) (pc + 1) lv st) : Z E G kc ks n T I L R pc lv (.ref v :: .int (nI j) :: .ref a :: st) := fun H locs ls hR hL hlv => by
  obtain ⟨hb, t', h1, h2⟩ := (hR.2.2.2 a).arr hT
  cases h1.symm.trans hk
  obtain ⟨kA, comp, kcomp, cv, kv, f1, f2, f3, f4, f5, f6, f7⟩ := hv H hR
  have hin := nI_in hj hm
  have hcl := nI_clamp (Nat.lt_trans hj hm)
  refine W.aast g.x g.b h2 (fun q h => by cases h) (fun h => by cases h) f1 f2 ht.1 f3 ⟨fun q => hin (Or.inl q), by rw [hcl, arrV_size]; exact hj⟩ f4 (fun q h => by rw [f5] at h; cases h) f6 f7 rfl rfl hd fun H' e1 e2 e3 => ?_
  rw [hcl] at e1 ⊢
  exact kk H' _ ls (hR.elt hT hk h8 e1 e2 e3 (fun b h => ⟨rfl, rfl, zp_n h⟩) (fun i => zval_r _ R a j i (some v) _ _ (fun _ => ht.2))) (fun q hq => by
    rcases List.mem_append.mp hq with h | h
    · exact hL q h
    · rw [List.mem_singleton.mp h]
      exact hb h8) hlv
theorem z_aastN {k m a j : Nat} {C : String} (g : zGd E G cc own nL d K S) (hk : zAr[k]? = some (.object C)) (h8 : k < 8) (hT : T a = za k m) (hj : j < m) (hm : m < 2 ^ 31) (hd : decode cc pc = .ok (.aastore, 1)) (kk : Z E G kc ks n T I L (zp R a (zp (R a) j none)) (pc + 1) lv st) : Z E G kc ks n T I L R pc lv (.null :: .int (nI j) :: .ref a :: st) := fun H locs ls hR hL hlv => by
  obtain ⟨hb, t', h1, h2⟩ := (hR.2.2.2 a).arr hT
  cases h1.symm.trans hk
  have hcl := nI_clamp (Nat.lt_trans hj hm)
  refine va_WaastN (C := C) g.x g.b h2 ((g.ak hk).1 m _) (fun h => by cases h) (by rw [arrV_size]; exact nI_in hj hm) rfl rfl hd fun H' e1 e2 e3 => ?_
  rw [hcl] at e1 ⊢
  exact kk H' _ ls (hR.elt hT hk h8 e1 e2 e3 (fun b h => ⟨rfl, rfl, zp_n h⟩) (fun i => zval_r _ R a j i none _ _ (fun _ => rfl))) (fun q hq => by
    rcases List.mem_append.mp hq with h | h
    · exact hL q h
    · rw [List.mem_singleton.mp h]
      exact hb h8) hlv
/-- an object of a known class stored in an Object[] -/
theorem z_aastO {m a j v c N : Nat} {C : String} {TT : u_T} (g : zGd E G cc own nL d K S) (hc : zCls c C TT N) (hca : Cond.castable C "java/lang/Object" ∈ lw_tbl) (hv : T v = zo c) (hT : T a = za 5 m) (hj : j < m) (hm : m < 2 ^ 31) (hd : decode cc pc = .ok (.aastore, 1)) (kk : Z E G kc ks n T I L (zp R a (zp (R a) j (some v))) (pc + 1) lv st) : Z E G kc ks n T I L R pc lv (.ref v :: .int (nI j) :: .ref a :: st) := by
  refine z_aastC (t := .object "java/lang/Object") g rfl (by decide) ⟨rfl, rfl⟩ hT hj hm (fun H hR => ?_) hd kk
  obtain ⟨-, r, h1, cell, q1, q2, q3, -⟩ := (hR.2.2.2 v).obj hv
  cases h1.symm.trans hc.1
  obtain ⟨kA, comp, k1, k2, k3, -⟩ := (g.ak (k := 5) (t := .object "java/lang/Object") rfl).2
  obtain ⟨kO, hkO, -⟩ := Vm.findClass_spec k3
  obtain ⟨c0, t0, f1, f2, f3⟩ := Cond.castable_spec (va_Nw.use (A := ga G) rfl (g.wC hca))
  obtain ⟨-, hfc, kC, hkC, -⟩ := g.kn hc.1
  cases hfc.symm.trans f1
  cases k3.symm.trans f2
  exact ⟨kA, comp, kO, cell, kC, k1, k2, hkO, q1, q3, by rw [q2]; exact hkC, by rw [q2]; exact f3⟩
/-! new cells -/
theorem z_new {c N index : Nat} {C : String} {TT : u_T} (g : zGd E G cc own nL d K S) (hc : zCls c C TT N) (hcl : Cond.classLink own index C ∈ lw_all) (hins : Cond.instantiable C N ∈ lw_all) (hini : Cond.initialized C ∈ lw_all) (hk : kc + 1 ≤ K) (hs : ks + N ≤ S) (hd : decode cc pc = .ok (.new index, 3)) (kk : Z E G (kc + 1) (ks + N) (n + 1) (zp T n (zo c)) (zp I n (fun _ => 0)) (zp L n (fun _ => 0)) (zp R n (fun _ => none)) (pc + 3) lv (.ref n :: st)) : Z E G kc ks n T I L R pc lv st := fun H locs ls hR hL hlv => by
  have hKn := g.kn hc.1
  refine W.newcK g.x g.b g.ow (g.w hcl) (g.w hins) (g.w hini) rfl hd (by rw [g.ce]; exact hk) (by rw [g.sl]; exact hs) hKn.2.1 hR.1 fun H1 kC hkC e1 z1 o1 => ?_
  refine kk H1 locs ls (hR.push z1 o1 (zat.mkO zp_s ⟨hR.2.1, _, hc.1, ?_⟩)) hL hlv
  refine (u_born (zTy c) (fun w h => g.w h) hc.2.1 hKn hkC e1 hc.2.2.1).to fun j hj => ?_
  rw [zp_s, zp_s, zp_s]
  exact (hc.2.2.2.2 j hj).symm
theorem z_newa {k m : Nat} {atype : ArrayType} {t : FieldType} (g : zGd E G cc own nL d K S) (hk : zAr[k]? = some t) (hty : newarray.typeOf atype = t) (hz : zval (zkind t) 0 0 none = defaultValue t) (hra : va_RA (gs G) (zdA E k) t → (gs G).vm.findClass ("[" ++ t.toString) = some (zdA E k)) (harr : Cond.arrayClass t ∈ lw_all) (hm : m < 2 ^ 31) (hby : m * componentBytes t ≤ 536870912) (h1 : kc + 1 ≤ K) (h2 : ks + m ≤ S) (hd : decode cc pc = .ok (.newarray atype, 2)) (kk : Z E G (kc + 1) (ks + m) (n + 1) (zp T n (za k m)) (zp I n (fun _ => 0)) (zp L n (fun _ => 0)) (zp R n (fun _ => none)) (pc + 2) lv (.ref n :: st)) : Z E G kc ks n T I L R pc lv (.int (nI m) :: st) := fun H locs ls hR hL hlv => by
  subst hty
  refine va_newaK g.x g.b (g.w harr) rfl hd rfl (nI_pos hm) (nI_clamp hm) hby (by rw [g.ce]; exact h1) (by rw [g.sl]; exact h2) hR.1 fun H1 cA e1 z1 o1 _ hf => ?_
  cases hf.symm.trans (hra (g.ak hk).2)
  refine kk H1 locs ls (hR.push z1 o1 (zat.mkA zp_s ⟨fun _ => hR.2.1, _, hk, ?_⟩)) hL hlv
  rw [e1]
  congr 2
  funext j
  rw [zp_s, zp_s, zp_s]
  exact hz.symm
theorem z_newq {m index : Nat} (g : zGd E G cc own nL d K S) (hcl : Cond.classLink own index "java/lang/Object" ∈ lw_all) (hov : Cond.arrayOver (.object "java/lang/Object") ∈ lw_tbl) (hm : m < 2 ^ 27) (h1 : kc + 1 ≤ K) (h2 : ks + m ≤ S) (hd : decode cc pc = .ok (.anewarray index, 3)) (kk : Z E G (kc + 1) (ks + m) (n + 1) (zp T n (za 5 m)) (zp I n (fun _ => 0)) (zp L n (fun _ => 0)) (zp R n (fun _ => none)) (pc + 3) lv (.ref n :: st)) : Z E G kc ks n T I L R pc lv (.int (nI m) :: st) := fun H locs ls hR hL hlv => by
  have hm' : m < 2 ^ 31 := Nat.lt_trans hm (by decide)
  have hcm := nI_clamp hm'
  have hA : va_AO "java/lang/Object" (gs G) := va_AO.moved g.wm.alike (va_AO.of (g.ok.1 _ hov))
  refine W.anew g.x g.b g.ow (g.w hcl) (va_AO.use hA) rfl hd rfl (nI_pos hm') (by rw [hcm]; omega) (by rw [g.ce]; exact h1) (by rw [g.sl, hcm]; exact h2) fun cA kA comp f1 f2 f3 f4 => ?_
  rw [hcm]
  obtain ⟨kA2, comp2, -, -, -, f5⟩ := (g.ak (k := 5) (t := .object "java/lang/Object") rfl).2
  cases f1.symm.trans f5
  rw [arrV_new]
  have hz := hR.1
  subst hz
  refine kk _ locs ls (hR.push (by simp) (fun q hq => by rw [Array.getElem?_push, if_neg (Nat.ne_of_lt hq)]) (zat.mkA zp_s ⟨fun _ => hR.2.1, .object "java/lang/Object", rfl, ?_⟩)) hL hlv
  rw [Array.getElem?_push_size]
  congr 2
  funext j
  rw [zp_s, zp_s, zp_s]
  rfl
theorem z_newA {k m index : Nat} {t : FieldType} (g : zGd E G cc own nL d K S) (hk : zAr[k]? = some (.array t)) (hcl : Cond.classLink own index (FieldType.array t).toString ∈ lw_all) (hov : Cond.arrayOver (.array t) ∈ lw_tbl) (hm : m < 2 ^ 27) (h1 : kc + 1 ≤ K) (h2 : ks + m ≤ S) (hd : decode cc pc = .ok (.anewarray index, 3)) (kk : Z E G (kc + 1) (ks + m) (n + 1) (zp T n (za k m)) (zp I n (fun _ => 0)) (zp L n (fun _ => 0)) (zp R n (fun _ => none)) (pc + 3) lv (.ref n :: st)) : Z E G kc ks n T I L R pc lv (.int (nI m) :: st) := fun H locs ls hR hL hlv => by
  have hm' : m < 2 ^ 31 := Nat.lt_trans hm (by decide)
  have hcm := nI_clamp hm'
  refine W.anewA g.x g.b g.ow (g.w hcl) (over_moved g.wm.alike (g.ok.1 _ hov)) rfl hd rfl (nI_pos hm') (by rw [hcm]; omega) (by rw [g.ce]; exact h1) (by rw [g.sl, hcm]; exact h2) fun cA kA comp f1 f2 f3 f4 => ?_
  rw [hcm]
  have f5 : (gs G).vm.findClass ("[" ++ (FieldType.array t).toString) = some (zdA E k) := (g.ak hk).2
  cases f1.symm.trans f5
  rw [arrV_new]
  have hz := hR.1
  subst hz
  refine kk _ locs ls (hR.push (by simp) (fun q hq => by rw [Array.getElem?_push, if_neg (Nat.ne_of_lt hq)]) (zat.mkA zp_s ⟨fun _ => hR.2.1, .array t, hk, ?_⟩)) hL hlv
  rw [Array.getElem?_push_size]
  congr 2
  funext j
  rw [zp_s, zp_s, zp_s]
  rfl
theorem z_objInit {a index : Nat} (g : zGd E G cc own nL d K S) (hml : lv.length = nL) (hl : Cond.methodLink own index Lib.objectInit ∈ lw_all) (hi : Cond.instanceMethod Lib.objectInit ∈ lw_all) (hc : Cond.code Lib.objectInit ⟨#[0xb1]⟩ 1 none ∈ lw_all) (hd0 : 1 ≤ d) (hw : (st.map fun v => v.category).sum ≤ 8) (hd : decode cc pc = .ok (.invokespecial index, 3)) (kk : Z E G kc ks n T I L R (pc + 3) lv st) : Z E G kc ks n T I L R pc lv (.ref a :: st) := fun H locs ls hR hL hlv => by
  have h1 := g.fr
  have h2 := g.lo
  exact W.objInit g.x g.b g.ow (g.w hl) (g.w hi) (g.w hc) rfl (hlv.1.trans (hml.trans g.ml.symm)) rfl hd (Nat.le_trans hd0 h1) (by show 2 * 0 + _ + 12 ≤ _; omega) (kk H locs ls hR hL hlv)
/-! casts -/
theorem z_castY {c N a index : Nat} {C nm : String} {TT : u_T} (g : zGd E G cc own nL d K S) (hc : zCls c C TT N) (hl : Cond.classLink own index nm ∈ lw_all) (hca : C = nm ∨ Cond.castable C nm ∈ lw_tbl) (hT : T a = zo c) (hd : decode cc pc = .ok (.checkcast index, 3)) (kk : Z E G kc ks n T I L R (pc + 3) lv (.ref a :: st)) : Z E G kc ks n T I L R pc lv (.ref a :: st) := fun H locs ls hR hL hlv => by
  rcases hca with rfl | hca
  · exact va_castS g.x g.b g.ow (g.w hl) (g.kn hc.1).2 (g.recv hc.1 hR hT) hd (kk H locs ls hR hL hlv)
  · exact va_castY g.x g.b g.ow (g.w hl) (g.wC hca) (g.recv hc.1 hR hT) hd (kk H locs ls hR hL hlv)
theorem z_instS {c N a index : Nat} {C : String} {TT : u_T} (g : zGd E G cc own nL d K S) (hc : zCls c C TT N) (hl : Cond.classLink own index C ∈ lw_all) (hT : T a = zo c) (hd : decode cc pc = .ok (.instanceof index, 3)) (kk : Z E G kc ks n T I L R (pc + 3) lv (.int 1 :: st)) : Z E G kc ks n T I L R pc lv (.ref a :: st) := fun H locs ls hR hL hlv => va_instS g.x g.b g.ow (g.w hl) (g.kn hc.1).2 (g.recv hc.1 hR hT) hd (kk H locs ls hR hL hlv)
theorem z_instNo {c N a index : Nat} {C nm : String} {TT : u_T} (g : zGd E G cc own nL d K S) (hc : zCls c C TT N) (hl : Cond.classLink own index nm ∈ lw_all) (hno : (Cond.not (.castable C nm)).before (zA0 E) (zs0 E) = true) (hT : T a = zo c) (hd : decode cc pc = .ok (.instanceof index, 3)) (kk : Z E G kc ks n T I L R (pc + 3) lv (.int 0 :: st)) : Z E G kc ks n T I L R pc lv (.ref a :: st) := fun H locs ls hR hL hlv => va_instNo g.x g.b g.ow (g.w hl) ((va_Nc.of hno).moved g.wm.alike) (g.recv hc.1 hR hT) hd (kk H locs ls hR hL hlv)
end ZMem
