/-! ===== THE PURE LAYER: memory as functions, a goal over the machine's W, contracts ===== -/
set_option maxRecDepth 100000
abbrev ZT : Type := Nat → Option (Nat ⊕ (Nat × Nat))
abbrev ZI : Type := Nat → Nat → Int32
abbrev ZL : Type := Nat → Nat → Int64
abbrev ZR : Type := Nat → Nat → Option Nat
/-- an object of class number c; an array of kind k with m places -/
abbrev zo (c : Nat) : Option (Nat ⊕ (Nat × Nat)) := some (.inl c)
abbrev za (k m : Nat) : Option (Nat ⊕ (Nat × Nat)) := some (.inr (k, m))
/-- a function changed at one place -/
def zp {α : Type} (f : Nat → α) (a : Nat) (v : α) : Nat → α := fun b => if b = a then v else f b
theorem zp_s {α : Type} {f : Nat → α} {a : Nat} {v : α} : zp f a v a = v := if_pos rfl
theorem zp_n {α : Type} {f : Nat → α} {a b : Nat} {v : α} (h : b ≠ a) : zp f a v b = f b := if_neg h
theorem zp_zp {α : Type} {f : Nat → α} {a : Nat} {v w : α} : zp (zp f a v) a w = zp f a w := by
  funext b
  unfold zp
  by_cases h : b = a
  · rw [if_pos h, if_pos h]
  · rw [if_neg h, if_neg h, if_neg h]
theorem zp_self {α : Type} {f : Nat → α} {a : Nat} : zp f a (f a) = f := by
  funext b
  unfold zp
  by_cases h : b = a
  · rw [if_pos h, h]
  · rw [if_neg h]
theorem zp_comm {α : Type} {f : Nat → α} {a b : Nat} {v w : α} (h : a ≠ b) : zp (zp f a v) b w = zp (zp f b w) a v := by
  funext c
  unfold zp
  by_cases h1 : c = b
  · by_cases h2 : c = a
    · exact absurd (h2.symm.trans h1) h
    · rw [if_pos h1, if_neg h2, if_pos h1]
  · by_cases h2 : c = a
    · rw [if_neg h1, if_pos h2, if_pos h2]
    · rw [if_neg h1, if_neg h2, if_neg h2, if_neg h1]
def zkind (t : FieldType) : Nat := match t with
  | .long => 1
  | .object _ => 2
  | .array _ => 2
  | _ => 0
def zval (k : Nat) (i : Int32) (l : Int64) (r : Option Nat) : Value := match k with
  | 0 => .int i
  | 1 => .long l
  | _ => va_rf r
/-- the classes by number; the kinds of arrays by number (from 8 on: what stood there before the law, read only) -/
def zCl : List vw_C := [(RX0, TX0, 27), (RX1, TX1, 4), (RX2, TX2, 4), (RX3, TX3, 5), (RX4, TX4, 24), (RX5, TX5, 7), (RX6, TX6, 1), (RX7, TX7, 3), (RX8, TX8, 3), (RX9, TX9, 4), (RX10, TX10, 5), (RX11, TX11, 5), (RX12, TX12, 5), (RX13, TX13, 6), (RX14, TX14, 6), (RX15, TX15, 7), (RX16, TX16, 15), (RJ2, TJ2, 3)]
def zTys : List (Nat → FieldType) := [tyX0, tyX1, tyX2, tyX3, tyX4, tyX5, tyX6, tyX7, tyX8, tyX9, tyX10, tyX11, tyX12, tyX13, tyX14, tyX15, tyX16, tyJ2]
def zTy (c k : Nat) : FieldType := (zTys.getD c (fun _ => .int)) k
def zAr : List FieldType := [.int, .byte, .char, .long, .boolean, .object "java/lang/Object", .array .char, .array .int, .int, .byte, .object "java/lang/Object"]
/-- what is fixed for a run: the launch, the law's first state and arguments, class numbers, field slots, array classes -/
abbrev ZE : Type := Launch × State × Array Value × (Nat → ClassId) × (Nat → Nat → Nat) × (Nat → ClassId)
abbrev zl (E : ZE) : Launch := E.1
abbrev zs0 (E : ZE) : State := E.2.1
abbrev zA0 (E : ZE) : Array Value := E.2.2.1
abbrev zdC (E : ZE) : Nat → ClassId := E.2.2.2.1
abbrev zdI (E : ZE) : Nat → Nat → Nat := E.2.2.2.2.1
abbrev zdA (E : ZE) : Nat → ClassId := E.2.2.2.2.2
abbrev zBase (E : ZE) : Nat := (zs0 E).heap.size
def zOK (E : ZE) : Prop := (∀ w ∈ lw_tbl, w.before (zA0 E) (zs0 E) = true) ∧ (∀ (c : Nat) (r : vw_C), zCl[c]? = some r → u_Kn (zs0 E) r.1 r.2.1 r.2.2 (zdC E c) (zdI E c)) ∧ (∀ (k : Nat) (t : FieldType), zAr[k]? = some t → ArrOfT (zs0 E) (zdA E k) t ∧ va_RA (zs0 E) (zdA E k) t) ∧ (zl E).flags = flags0 ∧ (Jvm.Cond.and given_1 narrow_1).before (zA0 E) (zs0 E) = true
/-- what the heap holds at one address -/
def zat (E : ZE) (T : ZT) (I : ZI) (L : ZL) (R : ZR) (H : Heap) (a : Nat) : Prop := match T a with
  | none => True
  | some (.inl c) => zBase E ≤ a ∧ ∃ r : vw_C, zCl[c]? = some r ∧ t_OB a (zdC E c) r.2.2 (zdI E c) H (fun k => zval (zkind (zTy c k)) (I a k) (L a k) (R a k))
  | some (.inr q) => (q.1 < 8 → zBase E ≤ a) ∧ ∃ t : FieldType, zAr[q.1]? = some t ∧ H[a]? = some (arrV (zdA E q.1) q.2 (fun j => zval (zkind t) (I a j) (L a j) (R a j)))
def zRep (E : ZE) (n : Nat) (T : ZT) (I : ZI) (L : ZL) (R : ZR) (H : Heap) : Prop := H.size = n ∧ zBase E ≤ n ∧ (∀ q : Nat, q < zBase E → H[q]? = (zs0 E).heap[q]?) ∧ ∀ a : Nat, zat E T I L R H a
theorem zat.obj {E : ZE} {T : ZT} {I : ZI} {L : ZL} {R : ZR} {H : Heap} {a c : Nat} (h : zat E T I L R H a) (hT : T a = zo c) : zBase E ≤ a ∧ ∃ r : vw_C, zCl[c]? = some r ∧ t_OB a (zdC E c) r.2.2 (zdI E c) H (fun k => zval (zkind (zTy c k)) (I a k) (L a k) (R a k)) := by
  unfold zat at h
  rw [hT] at h
  exact h
theorem zat.arr {E : ZE} {T : ZT} {I : ZI} {L : ZL} {R : ZR} {H : Heap} {a k m : Nat} (h : zat E T I L R H a) (hT : T a = za k m) : (k < 8 → zBase E ≤ a) ∧ ∃ t : FieldType, zAr[k]? = some t ∧ H[a]? = some (arrV (zdA E k) m (fun j => zval (zkind t) (I a j) (L a j) (R a j))) := by
  unfold zat at h
  rw [hT] at h
  exact h
theorem zat.mkO {E : ZE} {T : ZT} {I : ZI} {L : ZL} {R : ZR} {H : Heap} {a c : Nat} (hT : T a = zo c) (h : zBase E ≤ a ∧ ∃ r : vw_C, zCl[c]? = some r ∧ t_OB a (zdC E c) r.2.2 (zdI E c) H (fun k => zval (zkind (zTy c k)) (I a k) (L a k) (R a k))) : zat E T I L R H a := by
  unfold zat
  rw [hT]
  exact h
theorem zat.mkA {E : ZE} {T : ZT} {I : ZI} {L : ZL} {R : ZR} {H : Heap} {a k m : Nat} (hT : T a = za k m) (h : (k < 8 → zBase E ≤ a) ∧ ∃ t : FieldType, zAr[k]? = some t ∧ H[a]? = some (arrV (zdA E k) m (fun j => zval (zkind t) (I a j) (L a j) (R a j)))) : zat E T I L R H a := by
  unfold zat
  rw [hT]
  exact h
theorem zat.kept {E : ZE} {T T' : ZT} {I I' : ZI} {L L' : ZL} {R R' : ZR} {H H' : Heap} {a : Nat} (h : zat E T I L R H a) (e1 : T' a = T a) (e2 : I' a = I a) (e3 : L' a = L a) (e4 : R' a = R a) (e5 : T a ≠ none → H'[a]? = H[a]?) : zat E T' I' L' R' H' a := by
  unfold zat at h ⊢
  rw [e1, e2, e3, e4]
  cases hT : T a with
  | none => trivial
  | some q =>
    rw [hT] at h
    have e5 := e5 (by rw [hT]; exact fun z => by cases z)
    cases q with
    | inl c =>
      obtain ⟨h0, r, h1, h2⟩ := h
      exact ⟨h0, r, h1, h2.kept e5⟩
    | inr q =>
      obtain ⟨h0, t, h1, h2⟩ := h
      exact ⟨h0, t, h1, e5.trans h2⟩
theorem zat.lt {E : ZE} {T : ZT} {I : ZI} {L : ZL} {R : ZR} {H : Heap} {a : Nat} (h : zat E T I L R H a) (hT : T a ≠ none) : a < H.size := by
  unfold zat at h
  cases hq : T a with
  | none => exact absurd hq hT
  | some q =>
    rw [hq] at h
    cases q with
    | inl c =>
      obtain ⟨-, r, -, cell, h2, -⟩ := h
      exact (Array.getElem?_eq_some_iff.mp h2).1
    | inr q =>
      obtain ⟨-, t, -, h2⟩ := h
      exact (Array.getElem?_eq_some_iff.mp h2).1
theorem zRep.lt {E : ZE} {n : Nat} {T : ZT} {I : ZI} {L : ZL} {R : ZR} {H : Heap} (h : zRep E n T I L R H) : ∀ a : Nat, T a ≠ none → a < n := fun a ha => by
  rw [← h.1]
  exact (h.2.2.2 a).lt ha
/-- one cell changed -/
theorem zRep.put {E : ZE} {n : Nat} {T : ZT} {I I' : ZI} {L L' : ZL} {R R' : ZR} {H H' : Heap} {a : Nat} (h : zRep E n T I L R H) (hb : zBase E ≤ a) (hz : H'.size = H.size) (ho : ∀ q : Nat, q ≠ a → H'[q]? = H[q]?) (hrow : ∀ b : Nat, b ≠ a → I' b = I b ∧ L' b = L b ∧ R' b = R b) (ha : zat E T I' L' R' H' a) : zRep E n T I' L' R' H' := by
  refine ⟨hz.trans h.1, h.2.1, fun q hq => ?_, fun b => ?_⟩
  · rw [ho q (by omega)]
    exact h.2.2.1 q hq
  · by_cases e : b = a
    · rw [e]; exact ha
    · obtain ⟨e2, e3, e4⟩ := hrow b e
      exact (h.2.2.2 b).kept rfl e2 e3 e4 (fun _ => ho b e)
/-- one cell made -/
theorem zRep.push {E : ZE} {n : Nat} {T : ZT} {I : ZI} {L : ZL} {R : ZR} {H H' : Heap} {t : Option (Nat ⊕ (Nat × Nat))} {i : Nat → Int32} {l : Nat → Int64} {r : Nat → Option Nat} (h : zRep E n T I L R H) (hz : H'.size = n + 1) (ho : ∀ q : Nat, q < n → H'[q]? = H[q]?) (ha : zat E (zp T n t) (zp I n i) (zp L n l) (zp R n r) H' n) : zRep E (n + 1) (zp T n t) (zp I n i) (zp L n l) (zp R n r) H' := by
  refine ⟨hz, Nat.le_succ_of_le h.2.1, fun q hq => ?_, fun b => ?_⟩
  · rw [ho q (Nat.lt_of_lt_of_le hq h.2.1)]
    exact h.2.2.1 q hq
  · by_cases e : b = n
    · rw [e]; exact ha
    · exact (h.2.2.2 b).kept (zp_n e) (zp_n e) (zp_n e) (zp_n e) (fun hn => ho b (h.lt b hn))
/-! locals as a list of what is known of them -/
def zllF : Nat → List (Option Value) → List (Nat × Value)
  | _, [] => []
  | i, none :: t => zllF (i + 1) t
  | i, some v :: t => (i, v) :: zllF (i + 1) t
theorem zllF_mem : ∀ (lv : List (Option Value)) (i j : Nat) (v : Value), (j, v) ∈ zllF i lv ↔ ∃ k : Nat, j = i + k ∧ lv[k]? = some (some v)
  | [], i, j, v => by
    constructor
    · intro h
      cases h
    · rintro ⟨k, -, h⟩
      simp at h
  | none :: t, i, j, v => by
    rw [show zllF i (none :: t) = zllF (i + 1) t from rfl, zllF_mem t (i + 1) j v]
    constructor
    · rintro ⟨k, rfl, h⟩
      exact ⟨k + 1, by omega, by rw [List.getElem?_cons_succ]; exact h⟩
    · rintro ⟨k, rfl, h⟩
      cases k with
      | zero => rw [List.getElem?_cons_zero] at h; cases h
      | succ k => exact ⟨k, by omega, by rw [List.getElem?_cons_succ] at h; exact h⟩
  | some w :: t, i, j, v => by
    rw [show zllF i (some w :: t) = (i, w) :: zllF (i + 1) t from rfl, List.mem_cons, zllF_mem t (i + 1) j v]
    constructor
    · rintro (h | ⟨k, rfl, h⟩)
      · cases h
        exact ⟨0, rfl, rfl⟩
      · exact ⟨k + 1, by omega, by rw [List.getElem?_cons_succ]; exact h⟩
    · rintro ⟨k, rfl, h⟩
      cases k with
      | zero =>
        rw [List.getElem?_cons_zero] at h
        cases h
        exact Or.inl rfl
      | succ k => exact Or.inr ⟨k, by omega, by rw [List.getElem?_cons_succ] at h; exact h⟩
def zll (lv : List (Option Value)) : List (Nat × Value) := zllF 0 lv
theorem zll_mem {lv : List (Option Value)} {j : Nat} {v : Value} : (j, v) ∈ zll lv ↔ lv[j]? = some (some v) := by
  unfold zll
  rw [zllF_mem]
  constructor
  · rintro ⟨k, rfl, h⟩
    rw [Nat.zero_add]
    exact h
  · intro h
    exact ⟨j, (Nat.zero_add j).symm, h⟩
def zlv (lv : List (Option Value)) (ls : Array Slot) : Prop := lv_has ls lv.length (zll lv)
theorem zlv.at {lv : List (Option Value)} {ls : Array Slot} (h : zlv lv ls) {i : Nat} {v : Value} (hi : lv[i]? = some (some v)) : ls[i]? = some (.val v) := h.2.2 (i, v) (zll_mem.mpr hi)
theorem zlv.weak {lv lv' : List (Option Value)} {ls : Array Slot} (h : zlv lv ls) (hz : lv'.length = lv.length) (hs : ∀ (i : Nat) (v : Value), lv'[i]? = some (some v) → lv[i]? = some (some v)) : zlv lv' ls := by
  refine ⟨hz ▸ h.1, h.2.1, fun q hq => ?_⟩
  obtain ⟨i, v⟩ := q
  exact h.2.2 (i, v) (zll_mem.mpr (hs i v (zll_mem.mp hq)))
/-- a local of one slot stored: the place below isn't a long -/
theorem zlv.set {lv lv' : List (Option Value)} {ls' : Array Slot} {i : Nat} {v : Value} (hz : lv'.length = lv.length) (h' : lv_has ls' lv.length ((i, v) :: (zll lv).filter (fun q => !(q.1 == i) && !(q.1 + 1 == i && q.2.category == 2)))) (hs : ∀ (j : Nat) (w : Value), lv'[j]? = some (some w) → (j = i ∧ w = v) ∨ (lv[j]? = some (some w) ∧ j ≠ i ∧ (j + 1 = i → w.category ≠ 2))) : zlv lv' ls' := by
  refine ⟨hz ▸ h'.1, h'.2.1, fun q hq => ?_⟩
  obtain ⟨j, w⟩ := q
  rcases hs j w (zll_mem.mp hq) with ⟨rfl, rfl⟩ | ⟨h1, h2, h3⟩
  · exact h'.2.2 _ List.mem_cons_self
  · refine h'.2.2 (j, w) (List.mem_cons_of_mem _ (List.mem_filter.mpr ⟨zll_mem.mpr h1, ?_⟩))
    by_cases e : j + 1 = i
    · have h4 := h3 e
      simp [h2, h4]
    · simp [h2, e]
/-- a local of two slots stored -/
theorem zlv.set2 {lv lv' : List (Option Value)} {ls' : Array Slot} {i : Nat} {v : Value} (hz : lv'.length = lv.length) (h' : lv_has ls' lv.length ((i, v) :: (zll lv).filter (fun q => !(q.1 == i) && (!(q.1 == i + 1) && !(q.1 + 1 == i && q.2.category == 2))))) (hs : ∀ (j : Nat) (w : Value), lv'[j]? = some (some w) → (j = i ∧ w = v) ∨ (lv[j]? = some (some w) ∧ j ≠ i ∧ j ≠ i + 1 ∧ (j + 1 = i → w.category ≠ 2))) : zlv lv' ls' := by
  refine ⟨hz ▸ h'.1, h'.2.1, fun q hq => ?_⟩
  obtain ⟨j, w⟩ := q
  rcases hs j w (zll_mem.mp hq) with ⟨rfl, rfl⟩ | ⟨h1, h2, h5, h3⟩
  · exact h'.2.2 _ List.mem_cons_self
  · refine h'.2.2 (j, w) (List.mem_cons_of_mem _ (List.mem_filter.mpr ⟨zll_mem.mpr h1, ?_⟩))
    by_cases e : j + 1 = i
    · have h4 := h3 e
      simp [h2, h4, h5]
    · simp [h2, e, h5]
def zexp (As : List Value) : List (Option Value) := As.flatMap fun v => if v.category = 2 then [some v, none] else [some v]
def zlv0 (As : List Value) (nL : Nat) : List (Option Value) := zexp As ++ List.replicate (nL - (lg_sl As).length) none
theorem zexp_len : ∀ As : List Value, (zexp As).length = (lg_sl As).length
  | [] => rfl
  | v :: vs => by
    have h := zexp_len vs
    unfold zexp lg_sl at h ⊢
    rw [List.flatMap_cons, List.flatMap_cons, List.length_append, List.length_append, h]
    by_cases hc : v.category = 2
    · rw [if_pos hc, if_pos hc]; rfl
    · rw [if_neg hc, if_neg hc]; rfl
theorem zllF_none : ∀ (m i : Nat), zllF i (List.replicate m none) = []
  | 0, _ => rfl
  | m + 1, i => by
    rw [List.replicate_succ]
    exact zllF_none m (i + 1)
theorem zllF_exp (m : Nat) : ∀ (As : List Value) (i : Nat), zllF i (zexp As ++ List.replicate m none) = lv_args i As
  | [], i => zllF_none m i
  | v :: vs, i => by
    have h := zllF_exp m vs
    have e : zexp (v :: vs) = (if v.category = 2 then [some v, none] else [some v]) ++ zexp vs := by
      unfold zexp
      rw [List.flatMap_cons]
    rw [e]
    unfold lv_args
    by_cases hc : v.category = 2
    · rw [if_pos hc, if_pos hc, ← h (i + 2)]
      rfl
    · rw [if_neg hc, if_neg hc, ← h (i + 1)]
      rfl
theorem zlv.entry {As : List Value} {nL : Nat} (h : (lg_sl As).length ≤ nL) : zlv (zlv0 As nL) ((lg_sl As ++ List.replicate (nL - (lg_sl As).length) Slot.unset).toArray) := by
  have h1 := lv_entry As h
  unfold zlv zll zlv0
  rw [zllF_exp, List.length_append, zexp_len, List.length_replicate, Nat.add_sub_cancel' h]
  exact h1
/-! the goal -/
abbrev ZG : Type := Program × Env × Room × State × MethodId × Array Value × List Frame × Method × Code × (State → Prop)
abbrev gp (G : ZG) : Program := G.1
abbrev ge (G : ZG) : Env := G.2.1
abbrev gR (G : ZG) : Room := G.2.2.1
abbrev gs (G : ZG) : State := G.2.2.2.1
abbrev gm (G : ZG) : MethodId := G.2.2.2.2.1
abbrev ga (G : ZG) : Array Value := G.2.2.2.2.2.1
abbrev gb (G : ZG) : List Frame := G.2.2.2.2.2.2.1
abbrev gM (G : ZG) : Method := G.2.2.2.2.2.2.2.1
abbrev gc (G : ZG) : Code := G.2.2.2.2.2.2.2.2.1
abbrev gQ (G : ZG) : State → Prop := G.2.2.2.2.2.2.2.2.2
abbrev ZW (E : ZE) (G : ZG) (H : Heap) (locs : List Loc) (kc ks : Nat) (g : JFrame) : Prop := W (gp G) (zl E) (ge G) (gR G) (gs G) (gm G) (ga G) (gb G) (gM G) (gc G) H locs kc ks (gQ G) g
def Z (E : ZE) (G : ZG) (kc ks n : Nat) (T : ZT) (I : ZI) (L : ZL) (R : ZR) (pc : Nat) (lv : List (Option Value)) (st : List Value) : Prop :=
  ∀ (H : Heap) (locs : List Loc) (ls : Array Slot), zRep E n T I L R H → (∀ q ∈ locs, zBase E ≤ q.base) → zlv lv ls → ZW E G H locs kc ks (F0 (gm G) pc ls st)
/-- what a walk stands on: the machine, the code, the own class, the tables, the room -/
def zGd (E : ZE) (G : ZG) (cc : ByteArray) (own : String) (nL d K S : Nat) : Prop :=
  (gp G).tables.exec = Jvm.exec ∧ (gc G).code = cc ∧ (gc G).maxLocals = nL ∧ (gs G).vm.findClass own = some (gm G).cls ∧ (zs0 E).WarmedH (gs G).vm ∧ zOK E ∧ d ≤ (gR G).frames ∧ 64 * d ≤ (gR G).locals ∧ (gR G).cells = K ∧ (gR G).slots = S
section ZGd
variable {E : ZE} {G : ZG} {cc : ByteArray} {own : String} {nL d K S : Nat}
theorem zGd.x (g : zGd E G cc own nL d K S) : (gp G).tables.exec = Jvm.exec := g.1
theorem zGd.b (g : zGd E G cc own nL d K S) : (gc G).code = cc := g.2.1
theorem zGd.ml (g : zGd E G cc own nL d K S) : (gc G).maxLocals = nL := g.2.2.1
theorem zGd.ow (g : zGd E G cc own nL d K S) : (gs G).vm.findClass own = some (gm G).cls := g.2.2.2.1
theorem zGd.wm (g : zGd E G cc own nL d K S) : (zs0 E).WarmedH (gs G).vm := g.2.2.2.2.1
theorem zGd.ok (g : zGd E G cc own nL d K S) : zOK E := g.2.2.2.2.2.1
theorem zGd.fr (g : zGd E G cc own nL d K S) : d ≤ (gR G).frames := g.2.2.2.2.2.2.1
theorem zGd.lo (g : zGd E G cc own nL d K S) : 64 * d ≤ (gR G).locals := g.2.2.2.2.2.2.2.1
theorem zGd.ce (g : zGd E G cc own nL d K S) : (gR G).cells = K := g.2.2.2.2.2.2.2.2.1
theorem zGd.sl (g : zGd E G cc own nL d K S) : (gR G).slots = S := g.2.2.2.2.2.2.2.2.2
/-- the tables' words, at the method's start -/
theorem zGd.w (g : zGd E G cc own nL d K S) {w : Cond} (h : w ∈ lw_all) : w.before (ga G) (gs G) = true := word_at g.wm (good_of_word (List.mem_filter.mp h).2) (g.ok.1 w (lw_all_tbl h))
theorem zGd.wF (g : zGd E G cc own nL d K S) {a b nm ds h : String} {i : Nat} (hw : Cond.fieldLinkNest a i b nm ds h ∈ lw_tbl) : va_Nw (.fieldLinkNest a i b nm ds h) (gs G) := va_Nw.warmF g.wm (va_Nw.of rfl (g.ok.1 _ hw))
theorem zGd.wM (g : zGd E G cc own nL d K S) {a h : String} {i : Nat} {x : MethodName} (hw : Cond.methodLinkNest a i x h ∈ lw_tbl) : va_Nw (.methodLinkNest a i x h) (gs G) := va_Nw.warmM g.wm (va_Nw.of rfl (g.ok.1 _ hw))
theorem zGd.wC (g : zGd E G cc own nL d K S) {a b : String} (hw : Cond.castable a b ∈ lw_tbl) : va_Nw (.castable a b) (gs G) := va_Nw.warmC g.wm (va_Nw.of rfl (g.ok.1 _ hw))
theorem zGd.wD (g : zGd E G cc own nL d K S) {x : MethodName} (hw : Cond.declares x ∈ lw_tbl) : va_Nw (.declares x) (gs G) := va_Nw.warmD g.wm (va_Nw.of rfl (g.ok.1 _ hw))
theorem zGd.kn (g : zGd E G cc own nL d K S) {c : Nat} {r : vw_C} (hr : zCl[c]? = some r) : u_Kn (gs G) r.1 r.2.1 r.2.2 (zdC E c) (zdI E c) := u_Kn_moved g.wm.alike (g.ok.2.1 c r hr)
theorem zGd.ak (g : zGd E G cc own nL d K S) {k : Nat} {t : FieldType} (hk : zAr[k]? = some t) : ArrOfT (gs G) (zdA E k) t ∧ va_RA (gs G) (zdA E k) t := ⟨arrOfT_moved g.wm.alike (g.ok.2.2.1 k t hk).1, (g.ok.2.2.1 k t hk).2.moved g.wm.alike⟩
end ZGd
abbrev ZP : Type := Option Value → Nat → ZT → ZI → ZL → ZR → Prop
/-- how a method ends: its answer and the memory behind it -/
def zQc (E : ZE) (P : ZP) : Array Value → State → Outcome → State → Prop := fun _ _ o t => ∃ (v : Option Value) (n : Nat) (T : ZT) (I : ZI) (L : ZL) (R : ZR), o = .returned v ∧ P v n T I L R ∧ zRep E n T I L R t.heap
abbrev zrm (d K S : Nat) : Room := { frames := d, cells := K, slots := S, locals := 64 * d }
/-- a method's contract at these arguments and this memory -/
def zM (E : ZE) (y : MethodName) (cc : ByteArray) (nL : Nat) (ret : Option FieldType) (d K S : Nat) (As : List Value) (n : Nat) (T : ZT) (I : ZI) (L : ZL) (R : ZR) (P : ZP) : Prop :=
  zOK E → Met (zl E) y [Cond.code y cc nL ret] (zrm d K S) (va_Pc As (fun U => zRep E n T I L R U.heap ∧ (zs0 E).WarmedH U.vm)) (zQc E P) K S (fun q => zBase E ≤ q)
/-- what a walk's end asks -/
def zRt (E : ZE) (G : ZG) (ret : Option FieldType) (K S : Nat) (P : ZP) : Prop := (gM G).sig.returnType = ret ∧ (gM G).locks = false ∧ gQ G = MQ (gb G) (zQc E P) (ga G) (gs G) K S (fun q => zBase E ≤ q)
theorem zM.of {E : ZE} {y : MethodName} {cc : ByteArray} {nL : Nat} {ret : Option FieldType} {d K S : Nat} {As : List Value} {n : Nat} {T : ZT} {I : ZI} {L : ZL} {R : ZR} {P : ZP} {lv0 : List (Option Value)} (hy : plainName y.cls = true) (hln : (lg_sl As).length ≤ nL) (hlv : zlv0 As nL = lv0)
    (body : ∀ G : ZG, zGd E G cc y.cls nL d K S → zRt E G ret K S P → (gM G).name = y.name → (∀ a : Nat, T a ≠ none → a < n) → zBase E ≤ n → Z E G 0 0 n T I L R 0 lv0 []) : zM E y cc nL ret d K S As n T I L R P := by
  intro hE
  refine Met.ofW (cc := cc) (maxL := nL) (ret := ret) hy rfl ?_
  intro p e s m args below meth c s₁ B hml hv
  obtain ⟨rfl, hR, hW⟩ := hv
  have hl := zlv.entry hln
  rw [hlv] at hl
  rw [lg_entry_eq]
  refine body (p, e, (headSpec [Cond.code y cc nL ret] (zrm d K S)).room, s, m, As.toArray, below, meth, c, MQ below (zQc E P) As.toArray s K S (fun q => zBase E ≤ q)) ?_ ⟨B.returns, B.notSynchronized, rfl⟩ (name_of_methodNamed B.named B.method).1 hR.lt hR.2.1 s.heap [] _ hR (fun q h => by cases h) hl
  exact ⟨B.exec, B.bytes, hml, findClass_of_methodNamed B.named, hW, hE, Nat.le_refl _, Nat.le_refl _, rfl, rfl⟩
