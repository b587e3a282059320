/-! locals by index -/
set_option maxRecDepth 100000
/-- not the lower half of a long -/
def zc1 (o : Option Value) : Bool := match o with
  | some v => v.category != 2
  | none => true
theorem zc1_ne {o : Option Value} {w : Value} (h : zc1 o = true) (e : o = some w) : w.category ≠ 2 := by
  subst e
  simpa [zc1] using h
section ZLoc
variable {E : ZE} {G : ZG} {cc : ByteArray} {own : String} {nL d K S kc ks n : Nat} {T : ZT} {I : ZI} {L : ZL} {R : ZR} {pc : Nat} {tl : List (Option Value)} {st : List Value} {a0 : Option Value} {a1 : Option Value} {a2 : Option Value} {a3 : Option Value} {a4 : Option Value} {a5 : Option Value} {a6 : Option Value} {a7 : Option Value} {a8 : Option Value} {a9 : Option Value} {a10 : Option Value} {a11 : Option Value} {a12 : Option Value} {a13 : Option Value} {a14 : Option Value} {a15 : Option Value} {a16 : Option Value} {a17 : Option Value} {a18 : Option Value} {a19 : Option Value} {a20 : Option Value} {a21 : Option Value}
theorem z_il0 {x : Int32} (g : zGd E G cc own nL d K S) (hd : decode cc pc = .ok (.iload_n 0, 1)) (k : Z E G kc ks n T I L R (pc + 1) (some (.int x) :: tl) (.int x :: st)) : Z E G kc ks n T I L R pc (some (.int x) :: tl) st := z_iloadG g hd rfl rfl k
theorem z_ll0 {x : Int64} (g : zGd E G cc own nL d K S) (hd : decode cc pc = .ok (.lload_n 0, 1)) (k : Z E G kc ks n T I L R (pc + 1) (some (.long x) :: tl) (.long x :: st)) : Z E G kc ks n T I L R pc (some (.long x) :: tl) st := z_lloadG g hd rfl rfl k
theorem z_al0 {x : Nat} (g : zGd E G cc own nL d K S) (hd : decode cc pc = .ok (.aload_n 0, 1)) (k : Z E G kc ks n T I L R (pc + 1) (some (.ref x) :: tl) (.ref x :: st)) : Z E G kc ks n T I L R pc (some (.ref x) :: tl) st := z_aloadG g hd rfl rfl k
theorem zst_0 {v : Value} : zst (a0 :: tl) (some v :: tl) 0 v := by
  refine ⟨by simp only [List.length_cons]; omega, by simp only [List.length_cons], fun j w h => ?_⟩
  match j, h with
  | 0, h => exact Or.inl ⟨rfl, (Option.some.inj (Option.some.inj h)).symm⟩
  | j + 1, h => exact Or.inr ⟨h, by omega, fun e => by omega⟩
theorem z_is0 {x : Int32} (g : zGd E G cc own nL d K S) (hd : decode cc pc = .ok (.istore_n 0, 1)) (k : Z E G kc ks n T I L R (pc + 1) (some (.int x) :: tl) st) : Z E G kc ks n T I L R pc (a0 :: tl) (.int x :: st) := z_istoreG g hd rfl (zst_0 ) k
theorem z_as0 {x : Nat} (g : zGd E G cc own nL d K S) (hd : decode cc pc = .ok (.astore_n 0, 1)) (k : Z E G kc ks n T I L R (pc + 1) (some (.ref x) :: tl) st) : Z E G kc ks n T I L R pc (a0 :: tl) (.ref x :: st) := z_astoreG g hd rfl (zst_0 ) k
theorem z_ns0 (g : zGd E G cc own nL d K S) (hd : decode cc pc = .ok (.astore_n 0, 1)) (k : Z E G kc ks n T I L R (pc + 1) (some .null :: tl) st) : Z E G kc ks n T I L R pc (a0 :: tl) (.null :: st) := z_nstoreG g hd rfl (zst_0 ) k
theorem zst2_0 {v : Value} : zst2 (a0 :: a1 :: tl) (some v :: none :: tl) 0 v := by
  refine ⟨by simp only [List.length_cons]; omega, by simp only [List.length_cons], fun j w h => ?_⟩
  match j, h with
  | 0, h => exact Or.inl ⟨rfl, (Option.some.inj (Option.some.inj h)).symm⟩
  | 1, h => exact absurd (Option.some.inj h) (fun z => by cases z)
  | j + 2, h => exact Or.inr ⟨h, by omega, by omega, fun e => by omega⟩
theorem z_ls0 {x : Int64} (g : zGd E G cc own nL d K S) (hd : decode cc pc = .ok (.lstore_n 0, 1)) (k : Z E G kc ks n T I L R (pc + 1) (some (.long x) :: none :: tl) st) : Z E G kc ks n T I L R pc (a0 :: a1 :: tl) (.long x :: st) := z_lstoreG g hd rfl (zst2_0 ) k
theorem z_inc0 {x v : Int32} {m : Int} (g : zGd E G cc own nL d K S) (hd : decode cc pc = .ok (.iinc 0 m, 3)) (hv : x + Int32.ofInt m = v) (k : Z E G kc ks n T I L R (pc + 3) (some (.int v) :: tl) st) : Z E G kc ks n T I L R pc (some (.int x) :: tl) st := z_iincG g hd rfl hv (zst_0 ) k
theorem z_il1 {x : Int32} (g : zGd E G cc own nL d K S) (hd : decode cc pc = .ok (.iload_n 1, 1)) (k : Z E G kc ks n T I L R (pc + 1) (a0 :: some (.int x) :: tl) (.int x :: st)) : Z E G kc ks n T I L R pc (a0 :: some (.int x) :: tl) st := z_iloadG g hd rfl rfl k
theorem z_ll1 {x : Int64} (g : zGd E G cc own nL d K S) (hd : decode cc pc = .ok (.lload_n 1, 1)) (k : Z E G kc ks n T I L R (pc + 1) (a0 :: some (.long x) :: tl) (.long x :: st)) : Z E G kc ks n T I L R pc (a0 :: some (.long x) :: tl) st := z_lloadG g hd rfl rfl k
theorem z_al1 {x : Nat} (g : zGd E G cc own nL d K S) (hd : decode cc pc = .ok (.aload_n 1, 1)) (k : Z E G kc ks n T I L R (pc + 1) (a0 :: some (.ref x) :: tl) (.ref x :: st)) : Z E G kc ks n T I L R pc (a0 :: some (.ref x) :: tl) st := z_aloadG g hd rfl rfl k
theorem zst_1 (hc : zc1 a0 = true) {v : Value} : zst (a0 :: a1 :: tl) (a0 :: some v :: tl) 1 v := by
  refine ⟨by simp only [List.length_cons]; omega, by simp only [List.length_cons], fun j w h => ?_⟩
  match j, h with
  | 0, h => exact Or.inr ⟨h, by omega, fun _ => zc1_ne hc (Option.some.inj h)⟩
  | 1, h => exact Or.inl ⟨rfl, (Option.some.inj (Option.some.inj h)).symm⟩
  | j + 2, h => exact Or.inr ⟨h, by omega, fun e => by omega⟩
theorem z_is1 {x : Int32} (g : zGd E G cc own nL d K S) (hd : decode cc pc = .ok (.istore_n 1, 1)) (hc : zc1 a0 = true) (k : Z E G kc ks n T I L R (pc + 1) (a0 :: some (.int x) :: tl) st) : Z E G kc ks n T I L R pc (a0 :: a1 :: tl) (.int x :: st) := z_istoreG g hd rfl (zst_1 hc) k
theorem z_as1 {x : Nat} (g : zGd E G cc own nL d K S) (hd : decode cc pc = .ok (.astore_n 1, 1)) (hc : zc1 a0 = true) (k : Z E G kc ks n T I L R (pc + 1) (a0 :: some (.ref x) :: tl) st) : Z E G kc ks n T I L R pc (a0 :: a1 :: tl) (.ref x :: st) := z_astoreG g hd rfl (zst_1 hc) k
theorem z_ns1 (g : zGd E G cc own nL d K S) (hd : decode cc pc = .ok (.astore_n 1, 1)) (hc : zc1 a0 = true) (k : Z E G kc ks n T I L R (pc + 1) (a0 :: some .null :: tl) st) : Z E G kc ks n T I L R pc (a0 :: a1 :: tl) (.null :: st) := z_nstoreG g hd rfl (zst_1 hc) k
theorem zst2_1 (hc : zc1 a0 = true) {v : Value} : zst2 (a0 :: a1 :: a2 :: tl) (a0 :: some v :: none :: tl) 1 v := by
  refine ⟨by simp only [List.length_cons]; omega, by simp only [List.length_cons], fun j w h => ?_⟩
  match j, h with
  | 0, h => exact Or.inr ⟨h, by omega, by omega, fun _ => zc1_ne hc (Option.some.inj h)⟩
  | 1, h => exact Or.inl ⟨rfl, (Option.some.inj (Option.some.inj h)).symm⟩
  | 2, h => exact absurd (Option.some.inj h) (fun z => by cases z)
  | j + 3, h => exact Or.inr ⟨h, by omega, by omega, fun e => by omega⟩
theorem z_ls1 {x : Int64} (g : zGd E G cc own nL d K S) (hd : decode cc pc = .ok (.lstore_n 1, 1)) (hc : zc1 a0 = true) (k : Z E G kc ks n T I L R (pc + 1) (a0 :: some (.long x) :: none :: tl) st) : Z E G kc ks n T I L R pc (a0 :: a1 :: a2 :: tl) (.long x :: st) := z_lstoreG g hd rfl (zst2_1 hc) k
theorem z_inc1 {x v : Int32} {m : Int} (g : zGd E G cc own nL d K S) (hd : decode cc pc = .ok (.iinc 1 m, 3)) (hv : x + Int32.ofInt m = v) (hc : zc1 a0 = true) (k : Z E G kc ks n T I L R (pc + 3) (a0 :: some (.int v) :: tl) st) : Z E G kc ks n T I L R pc (a0 :: some (.int x) :: tl) st := z_iincG g hd rfl hv (zst_1 hc) k
theorem z_il2 {x : Int32} (g : zGd E G cc own nL d K S) (hd : decode cc pc = .ok (.iload_n 2, 1)) (k : Z E G kc ks n T I L R (pc + 1) (a0 :: a1 :: some (.int x) :: tl) (.int x :: st)) : Z E G kc ks n T I L R pc (a0 :: a1 :: some (.int x) :: tl) st := z_iloadG g hd rfl rfl k
theorem z_ll2 {x : Int64} (g : zGd E G cc own nL d K S) (hd : decode cc pc = .ok (.lload_n 2, 1)) (k : Z E G kc ks n T I L R (pc + 1) (a0 :: a1 :: some (.long x) :: tl) (.long x :: st)) : Z E G kc ks n T I L R pc (a0 :: a1 :: some (.long x) :: tl) st := z_lloadG g hd rfl rfl k
theorem z_al2 {x : Nat} (g : zGd E G cc own nL d K S) (hd : decode cc pc = .ok (.aload_n 2, 1)) (k : Z E G kc ks n T I L R (pc + 1) (a0 :: a1 :: some (.ref x) :: tl) (.ref x :: st)) : Z E G kc ks n T I L R pc (a0 :: a1 :: some (.ref x) :: tl) st := z_aloadG g hd rfl rfl k
theorem zst_2 (hc : zc1 a1 = true) {v : Value} : zst (a0 :: a1 :: a2 :: tl) (a0 :: a1 :: some v :: tl) 2 v := by
  refine ⟨by simp only [List.length_cons]; omega, by simp only [List.length_cons], fun j w h => ?_⟩
  match j, h with
  | 0, h => exact Or.inr ⟨h, by omega, fun e => by omega⟩
  | 1, h => exact Or.inr ⟨h, by omega, fun _ => zc1_ne hc (Option.some.inj h)⟩
  | 2, h => exact Or.inl ⟨rfl, (Option.some.inj (Option.some.inj h)).symm⟩
  | j + 3, h => exact Or.inr ⟨h, by omega, fun e => by omega⟩
theorem z_is2 {x : Int32} (g : zGd E G cc own nL d K S) (hd : decode cc pc = .ok (.istore_n 2, 1)) (hc : zc1 a1 = true) (k : Z E G kc ks n T I L R (pc + 1) (a0 :: a1 :: some (.int x) :: tl) st) : Z E G kc ks n T I L R pc (a0 :: a1 :: a2 :: tl) (.int x :: st) := z_istoreG g hd rfl (zst_2 hc) k
theorem z_as2 {x : Nat} (g : zGd E G cc own nL d K S) (hd : decode cc pc = .ok (.astore_n 2, 1)) (hc : zc1 a1 = true) (k : Z E G kc ks n T I L R (pc + 1) (a0 :: a1 :: some (.ref x) :: tl) st) : Z E G kc ks n T I L R pc (a0 :: a1 :: a2 :: tl) (.ref x :: st) := z_astoreG g hd rfl (zst_2 hc) k
theorem z_ns2 (g : zGd E G cc own nL d K S) (hd : decode cc pc = .ok (.astore_n 2, 1)) (hc : zc1 a1 = true) (k : Z E G kc ks n T I L R (pc + 1) (a0 :: a1 :: some .null :: tl) st) : Z E G kc ks n T I L R pc (a0 :: a1 :: a2 :: tl) (.null :: st) := z_nstoreG g hd rfl (zst_2 hc) k
theorem zst2_2 (hc : zc1 a1 = true) {v : Value} : zst2 (a0 :: a1 :: a2 :: a3 :: tl) (a0 :: a1 :: some v :: none :: tl) 2 v := by
  refine ⟨by simp only [List.length_cons]; omega, by simp only [List.length_cons], fun j w h => ?_⟩
  match j, h with
  | 0, h => exact Or.inr ⟨h, by omega, by omega, fun e => by omega⟩
  | 1, h => exact Or.inr ⟨h, by omega, by omega, fun _ => zc1_ne hc (Option.some.inj h)⟩
  | 2, h => exact Or.inl ⟨rfl, (Option.some.inj (Option.some.inj h)).symm⟩
  | 3, h => exact absurd (Option.some.inj h) (fun z => by cases z)
  | j + 4, h => exact Or.inr ⟨h, by omega, by omega, fun e => by omega⟩
theorem z_ls2 {x : Int64} (g : zGd E G cc own nL d K S) (hd : decode cc pc = .ok (.lstore_n 2, 1)) (hc : zc1 a1 = true) (k : Z E G kc ks n T I L R (pc + 1) (a0 :: a1 :: some (.long x) :: none :: tl) st) : Z E G kc ks n T I L R pc (a0 :: a1 :: a2 :: a3 :: tl) (.long x :: st) := z_lstoreG g hd rfl (zst2_2 hc) k
theorem z_inc2 {x v : Int32} {m : Int} (g : zGd E G cc own nL d K S) (hd : decode cc pc = .ok (.iinc 2 m, 3)) (hv : x + Int32.ofInt m = v) (hc : zc1 a1 = true) (k : Z E G kc ks n T I L R (pc + 3) (a0 :: a1 :: some (.int v) :: tl) st) : Z E G kc ks n T I L R pc (a0 :: a1 :: some (.int x) :: tl) st := z_iincG g hd rfl hv (zst_2 hc) k
theorem z_il3 {x : Int32} (g : zGd E G cc own nL d K S) (hd : decode cc pc = .ok (.iload_n 3, 1)) (k : Z E G kc ks n T I L R (pc + 1) (a0 :: a1 :: a2 :: some (.int x) :: tl) (.int x :: st)) : Z E G kc ks n T I L R pc (a0 :: a1 :: a2 :: some (.int x) :: tl) st := z_iloadG g hd rfl rfl k
theorem z_ll3 {x : Int64} (g : zGd E G cc own nL d K S) (hd : decode cc pc = .ok (.lload_n 3, 1)) (k : Z E G kc ks n T I L R (pc + 1) (a0 :: a1 :: a2 :: some (.long x) :: tl) (.long x :: st)) : Z E G kc ks n T I L R pc (a0 :: a1 :: a2 :: some (.long x) :: tl) st := z_lloadG g hd rfl rfl k
theorem z_al3 {x : Nat} (g : zGd E G cc own nL d K S) (hd : decode cc pc = .ok (.aload_n 3, 1)) (k : Z E G kc ks n T I L R (pc + 1) (a0 :: a1 :: a2 :: some (.ref x) :: tl) (.ref x :: st)) : Z E G kc ks n T I L R pc (a0 :: a1 :: a2 :: some (.ref x) :: tl) st := z_aloadG g hd rfl rfl k
theorem zst_3 (hc : zc1 a2 = true) {v : Value} : zst (a0 :: a1 :: a2 :: a3 :: tl) (a0 :: a1 :: a2 :: some v :: tl) 3 v := by
  refine ⟨by simp only [List.length_cons]; omega, by simp only [List.length_cons], fun j w h => ?_⟩
  match j, h with
  | 0, h => exact Or.inr ⟨h, by omega, fun e => by omega⟩
  | 1, h => exact Or.inr ⟨h, by omega, fun e => by omega⟩
  | 2, h => exact Or.inr ⟨h, by omega, fun _ => zc1_ne hc (Option.some.inj h)⟩
  | 3, h => exact Or.inl ⟨rfl, (Option.some.inj (Option.some.inj h)).symm⟩
  | j + 4, h => exact Or.inr ⟨h, by omega, fun e => by omega⟩
theorem z_is3 {x : Int32} (g : zGd E G cc own nL d K S) (hd : decode cc pc = .ok (.istore_n 3, 1)) (hc : zc1 a2 = true) (k : Z E G kc ks n T I L R (pc + 1) (a0 :: a1 :: a2 :: some (.int x) :: tl) st) : Z E G kc ks n T I L R pc (a0 :: a1 :: a2 :: a3 :: tl) (.int x :: st) := z_istoreG g hd rfl (zst_3 hc) k
theorem z_as3 {x : Nat} (g : zGd E G cc own nL d K S) (hd : decode cc pc = .ok (.astore_n 3, 1)) (hc : zc1 a2 = true) (k : Z E G kc ks n T I L R (pc + 1) (a0 :: a1 :: a2 :: some (.ref x) :: tl) st) : Z E G kc ks n T I L R pc (a0 :: a1 :: a2 :: a3 :: tl) (.ref x :: st) := z_astoreG g hd rfl (zst_3 hc) k
theorem z_ns3 (g : zGd E G cc own nL d K S) (hd : decode cc pc = .ok (.astore_n 3, 1)) (hc : zc1 a2 = true) (k : Z E G kc ks n T I L R (pc + 1) (a0 :: a1 :: a2 :: some .null :: tl) st) : Z E G kc ks n T I L R pc (a0 :: a1 :: a2 :: a3 :: tl) (.null :: st) := z_nstoreG g hd rfl (zst_3 hc) k
theorem zst2_3 (hc : zc1 a2 = true) {v : Value} : zst2 (a0 :: a1 :: a2 :: a3 :: a4 :: tl) (a0 :: a1 :: a2 :: some v :: none :: tl) 3 v := by
  refine ⟨by simp only [List.length_cons]; omega, by simp only [List.length_cons], fun j w h => ?_⟩
  match j, h with
  | 0, h => exact Or.inr ⟨h, by omega, by omega, fun e => by omega⟩
  | 1, h => exact Or.inr ⟨h, by omega, by omega, fun e => by omega⟩
  | 2, h => exact Or.inr ⟨h, by omega, by omega, fun _ => zc1_ne hc (Option.some.inj h)⟩
  | 3, h => exact Or.inl ⟨rfl, (Option.some.inj (Option.some.inj h)).symm⟩
  | 4, h => exact absurd (Option.some.inj h) (fun z => by cases z)
  | j + 5, h => exact Or.inr ⟨h, by omega, by omega, fun e => by omega⟩
theorem z_ls3 {x : Int64} (g : zGd E G cc own nL d K S) (hd : decode cc pc = .ok (.lstore_n 3, 1)) (hc : zc1 a2 = true) (k : Z E G kc ks n T I L R (pc + 1) (a0 :: a1 :: a2 :: some (.long x) :: none :: tl) st) : Z E G kc ks n T I L R pc (a0 :: a1 :: a2 :: a3 :: a4 :: tl) (.long x :: st) := z_lstoreG g hd rfl (zst2_3 hc) k
theorem z_inc3 {x v : Int32} {m : Int} (g : zGd E G cc own nL d K S) (hd : decode cc pc = .ok (.iinc 3 m, 3)) (hv : x + Int32.ofInt m = v) (hc : zc1 a2 = true) (k : Z E G kc ks n T I L R (pc + 3) (a0 :: a1 :: a2 :: some (.int v) :: tl) st) : Z E G kc ks n T I L R pc (a0 :: a1 :: a2 :: some (.int x) :: tl) st := z_iincG g hd rfl hv (zst_3 hc) k
theorem z_il4 {x : Int32} (g : zGd E G cc own nL d K S) (hd : decode cc pc = .ok (.iload 4, 2)) (k : Z E G kc ks n T I L R (pc + 2) (a0 :: a1 :: a2 :: a3 :: some (.int x) :: tl) (.int x :: st)) : Z E G kc ks n T I L R pc (a0 :: a1 :: a2 :: a3 :: some (.int x) :: tl) st := z_iloadW g hd rfl k
theorem z_ll4 {x : Int64} (g : zGd E G cc own nL d K S) (hd : decode cc pc = .ok (.lload 4, 2)) (k : Z E G kc ks n T I L R (pc + 2) (a0 :: a1 :: a2 :: a3 :: some (.long x) :: tl) (.long x :: st)) : Z E G kc ks n T I L R pc (a0 :: a1 :: a2 :: a3 :: some (.long x) :: tl) st := z_lloadW g hd rfl k
theorem z_al4 {x : Nat} (g : zGd E G cc own nL d K S) (hd : decode cc pc = .ok (.aload 4, 2)) (k : Z E G kc ks n T I L R (pc + 2) (a0 :: a1 :: a2 :: a3 :: some (.ref x) :: tl) (.ref x :: st)) : Z E G kc ks n T I L R pc (a0 :: a1 :: a2 :: a3 :: some (.ref x) :: tl) st := z_aloadW g hd rfl k
theorem zst_4 (hc : zc1 a3 = true) {v : Value} : zst (a0 :: a1 :: a2 :: a3 :: a4 :: tl) (a0 :: a1 :: a2 :: a3 :: some v :: tl) 4 v := by
  refine ⟨by simp only [List.length_cons]; omega, by simp only [List.length_cons], fun j w h => ?_⟩
  match j, h with
  | 0, h => exact Or.inr ⟨h, by omega, fun e => by omega⟩
  | 1, h => exact Or.inr ⟨h, by omega, fun e => by omega⟩
  | 2, h => exact Or.inr ⟨h, by omega, fun e => by omega⟩
  | 3, h => exact Or.inr ⟨h, by omega, fun _ => zc1_ne hc (Option.some.inj h)⟩
  | 4, h => exact Or.inl ⟨rfl, (Option.some.inj (Option.some.inj h)).symm⟩
  | j + 5, h => exact Or.inr ⟨h, by omega, fun e => by omega⟩
theorem z_is4 {x : Int32} (g : zGd E G cc own nL d K S) (hd : decode cc pc = .ok (.istore 4, 2)) (hc : zc1 a3 = true) (k : Z E G kc ks n T I L R (pc + 2) (a0 :: a1 :: a2 :: a3 :: some (.int x) :: tl) st) : Z E G kc ks n T I L R pc (a0 :: a1 :: a2 :: a3 :: a4 :: tl) (.int x :: st) := z_istoreW g hd (zst_4 hc) k
theorem z_as4 {x : Nat} (g : zGd E G cc own nL d K S) (hd : decode cc pc = .ok (.astore 4, 2)) (hc : zc1 a3 = true) (k : Z E G kc ks n T I L R (pc + 2) (a0 :: a1 :: a2 :: a3 :: some (.ref x) :: tl) st) : Z E G kc ks n T I L R pc (a0 :: a1 :: a2 :: a3 :: a4 :: tl) (.ref x :: st) := z_astoreW g hd (zst_4 hc) k
theorem zst2_4 (hc : zc1 a3 = true) {v : Value} : zst2 (a0 :: a1 :: a2 :: a3 :: a4 :: a5 :: tl) (a0 :: a1 :: a2 :: a3 :: some v :: none :: tl) 4 v := by
  refine ⟨by simp only [List.length_cons]; omega, by simp only [List.length_cons], fun j w h => ?_⟩
  match j, h with
  | 0, h => exact Or.inr ⟨h, by omega, by omega, fun e => by omega⟩
  | 1, h => exact Or.inr ⟨h, by omega, by omega, fun e => by omega⟩
  | 2, h => exact Or.inr ⟨h, by omega, by omega, fun e => by omega⟩
  | 3, h => exact Or.inr ⟨h, by omega, by omega, fun _ => zc1_ne hc (Option.some.inj h)⟩
  | 4, h => exact Or.inl ⟨rfl, (Option.some.inj (Option.some.inj h)).symm⟩
  | 5, h => exact absurd (Option.some.inj h) (fun z => by cases z)
  | j + 6, h => exact Or.inr ⟨h, by omega, by omega, fun e => by omega⟩
theorem z_ls4 {x : Int64} (g : zGd E G cc own nL d K S) (hd : decode cc pc = .ok (.lstore 4, 2)) (hc : zc1 a3 = true) (k : Z E G kc ks n T I L R (pc + 2) (a0 :: a1 :: a2 :: a3 :: some (.long x) :: none :: tl) st) : Z E G kc ks n T I L R pc (a0 :: a1 :: a2 :: a3 :: a4 :: a5 :: tl) (.long x :: st) := z_lstoreW g hd (zst2_4 hc) k
theorem z_inc4 {x v : Int32} {m : Int} (g : zGd E G cc own nL d K S) (hd : decode cc pc = .ok (.iinc 4 m, 3)) (hv : x + Int32.ofInt m = v) (hc : zc1 a3 = true) (k : Z E G kc ks n T I L R (pc + 3) (a0 :: a1 :: a2 :: a3 :: some (.int v) :: tl) st) : Z E G kc ks n T I L R pc (a0 :: a1 :: a2 :: a3 :: some (.int x) :: tl) st := z_iincG g hd rfl hv (zst_4 hc) k
theorem z_il5 {x : Int32} (g : zGd E G cc own nL d K S) (hd : decode cc pc = .ok (.iload 5, 2)) (k : Z E G kc ks n T I L R (pc + 2) (a0 :: a1 :: a2 :: a3 :: a4 :: some (.int x) :: tl) (.int x :: st)) : Z E G kc ks n T I L R pc (a0 :: a1 :: a2 :: a3 :: a4 :: some (.int x) :: tl) st := z_iloadW g hd rfl k
theorem z_ll5 {x : Int64} (g : zGd E G cc own nL d K S) (hd : decode cc pc = .ok (.lload 5, 2)) (k : Z E G kc ks n T I L R (pc + 2) (a0 :: a1 :: a2 :: a3 :: a4 :: some (.long x) :: tl) (.long x :: st)) : Z E G kc ks n T I L R pc (a0 :: a1 :: a2 :: a3 :: a4 :: some (.long x) :: tl) st := z_lloadW g hd rfl k
theorem z_al5 {x : Nat} (g : zGd E G cc own nL d K S) (hd : decode cc pc = .ok (.aload 5, 2)) (k : Z E G kc ks n T I L R (pc + 2) (a0 :: a1 :: a2 :: a3 :: a4 :: some (.ref x) :: tl) (.ref x :: st)) : Z E G kc ks n T I L R pc (a0 :: a1 :: a2 :: a3 :: a4 :: some (.ref x) :: tl) st := z_aloadW g hd rfl k
theorem zst_5 (hc : zc1 a4 = true) {v : Value} : zst (a0 :: a1 :: a2 :: a3 :: a4 :: a5 :: tl) (a0 :: a1 :: a2 :: a3 :: a4 :: some v :: tl) 5 v := by
  refine ⟨by simp only [List.length_cons]; omega, by simp only [List.length_cons], fun j w h => ?_⟩
  match j, h with
  | 0, h => exact Or.inr ⟨h, by omega, fun e => by omega⟩
  | 1, h => exact Or.inr ⟨h, by omega, fun e => by omega⟩
  | 2, h => exact Or.inr ⟨h, by omega, fun e => by omega⟩
  | 3, h => exact Or.inr ⟨h, by omega, fun e => by omega⟩
  | 4, h => exact Or.inr ⟨h, by omega, fun _ => zc1_ne hc (Option.some.inj h)⟩
  | 5, h => exact Or.inl ⟨rfl, (Option.some.inj (Option.some.inj h)).symm⟩
  | j + 6, h => exact Or.inr ⟨h, by omega, fun e => by omega⟩
theorem z_is5 {x : Int32} (g : zGd E G cc own nL d K S) (hd : decode cc pc = .ok (.istore 5, 2)) (hc : zc1 a4 = true) (k : Z E G kc ks n T I L R (pc + 2) (a0 :: a1 :: a2 :: a3 :: a4 :: some (.int x) :: tl) st) : Z E G kc ks n T I L R pc (a0 :: a1 :: a2 :: a3 :: a4 :: a5 :: tl) (.int x :: st) := z_istoreW g hd (zst_5 hc) k
theorem z_as5 {x : Nat} (g : zGd E G cc own nL d K S) (hd : decode cc pc = .ok (.astore 5, 2)) (hc : zc1 a4 = true) (k : Z E G kc ks n T I L R (pc + 2) (a0 :: a1 :: a2 :: a3 :: a4 :: some (.ref x) :: tl) st) : Z E G kc ks n T I L R pc (a0 :: a1 :: a2 :: a3 :: a4 :: a5 :: tl) (.ref x :: st) := z_astoreW g hd (zst_5 hc) k
theorem zst2_5 (hc : zc1 a4 = true) {v : Value} : zst2 (a0 :: a1 :: a2 :: a3 :: a4 :: a5 :: a6 :: tl) (a0 :: a1 :: a2 :: a3 :: a4 :: some v :: none :: tl) 5 v := by
  refine ⟨by simp only [List.length_cons]; omega, by simp only [List.length_cons], fun j w h => ?_⟩
  match j, h with
  | 0, h => exact Or.inr ⟨h, by omega, by omega, fun e => by omega⟩
  | 1, h => exact Or.inr ⟨h, by omega, by omega, fun e => by omega⟩
  | 2, h => exact Or.inr ⟨h, by omega, by omega, fun e => by omega⟩
  | 3, h => exact Or.inr ⟨h, by omega, by omega, fun e => by omega⟩
  | 4, h => exact Or.inr ⟨h, by omega, by omega, fun _ => zc1_ne hc (Option.some.inj h)⟩
  | 5, h => exact Or.inl ⟨rfl, (Option.some.inj (Option.some.inj h)).symm⟩
  | 6, h => exact absurd (Option.some.inj h) (fun z => by cases z)
  | j + 7, h => exact Or.inr ⟨h, by omega, by omega, fun e => by omega⟩
theorem z_ls5 {x : Int64} (g : zGd E G cc own nL d K S) (hd : decode cc pc = .ok (.lstore 5, 2)) (hc : zc1 a4 = true) (k : Z E G kc ks n T I L R (pc + 2) (a0 :: a1 :: a2 :: a3 :: a4 :: some (.long x) :: none :: tl) st) : Z E G kc ks n T I L R pc (a0 :: a1 :: a2 :: a3 :: a4 :: a5 :: a6 :: tl) (.long x :: st) := z_lstoreW g hd (zst2_5 hc) k
theorem z_inc5 {x v : Int32} {m : Int} (g : zGd E G cc own nL d K S) (hd : decode cc pc = .ok (.iinc 5 m, 3)) (hv : x + Int32.ofInt m = v) (hc : zc1 a4 = true) (k : Z E G kc ks n T I L R (pc + 3) (a0 :: a1 :: a2 :: a3 :: a4 :: some (.int v) :: tl) st) : Z E G kc ks n T I L R pc (a0 :: a1 :: a2 :: a3 :: a4 :: some (.int x) :: tl) st := z_iincG g hd rfl hv (zst_5 hc) k
theorem z_il6 {x : Int32} (g : zGd E G cc own nL d K S) (hd : decode cc pc = .ok (.iload 6, 2)) (k : Z E G kc ks n T I L R (pc + 2) (a0 :: a1 :: a2 :: a3 :: a4 :: a5 :: some (.int x) :: tl) (.int x :: st)) : Z E G kc ks n T I L R pc (a0 :: a1 :: a2 :: a3 :: a4 :: a5 :: some (.int x) :: tl) st := z_iloadW g hd rfl k
theorem z_ll6 {x : Int64} (g : zGd E G cc own nL d K S) (hd : decode cc pc = .ok (.lload 6, 2)) (k : Z E G kc ks n T I L R (pc + 2) (a0 :: a1 :: a2 :: a3 :: a4 :: a5 :: some (.long x) :: tl) (.long x :: st)) : Z E G kc ks n T I L R pc (a0 :: a1 :: a2 :: a3 :: a4 :: a5 :: some (.long x) :: tl) st := z_lloadW g hd rfl k
theorem z_al6 {x : Nat} (g : zGd E G cc own nL d K S) (hd : decode cc pc = .ok (.aload 6, 2)) (k : Z E G kc ks n T I L R (pc + 2) (a0 :: a1 :: a2 :: a3 :: a4 :: a5 :: some (.ref x) :: tl) (.ref x :: st)) : Z E G kc ks n T I L R pc (a0 :: a1 :: a2 :: a3 :: a4 :: a5 :: some (.ref x) :: tl) st := z_aloadW g hd rfl k
theorem zst_6 (hc : zc1 a5 = true) {v : Value} : zst (a0 :: a1 :: a2 :: a3 :: a4 :: a5 :: a6 :: tl) (a0 :: a1 :: a2 :: a3 :: a4 :: a5 :: some v :: tl) 6 v := by
  refine ⟨by simp only [List.length_cons]; omega, by simp only [List.length_cons], fun j w h => ?_⟩
  match j, h with
  | 0, h => exact Or.inr ⟨h, by omega, fun e => by omega⟩
  | 1, h => exact Or.inr ⟨h, by omega, fun e => by omega⟩
  | 2, h => exact Or.inr ⟨h, by omega, fun e => by omega⟩
  | 3, h => exact Or.inr ⟨h, by omega, fun e => by omega⟩
  | 4, h => exact Or.inr ⟨h, by omega, fun e => by omega⟩
  | 5, h => exact Or.inr ⟨h, by omega, fun _ => zc1_ne hc (Option.some.inj h)⟩
  | 6, h => exact Or.inl ⟨rfl, (Option.some.inj (Option.some.inj h)).symm⟩
  | j + 7, h => exact Or.inr ⟨h, by omega, fun e => by omega⟩
theorem z_is6 {x : Int32} (g : zGd E G cc own nL d K S) (hd : decode cc pc = .ok (.istore 6, 2)) (hc : zc1 a5 = true) (k : Z E G kc ks n T I L R (pc + 2) (a0 :: a1 :: a2 :: a3 :: a4 :: a5 :: some (.int x) :: tl) st) : Z E G kc ks n T I L R pc (a0 :: a1 :: a2 :: a3 :: a4 :: a5 :: a6 :: tl) (.int x :: st) := z_istoreW g hd (zst_6 hc) k
theorem z_as6 {x : Nat} (g : zGd E G cc own nL d K S) (hd : decode cc pc = .ok (.astore 6, 2)) (hc : zc1 a5 = true) (k : Z E G kc ks n T I L R (pc + 2) (a0 :: a1 :: a2 :: a3 :: a4 :: a5 :: some (.ref x) :: tl) st) : Z E G kc ks n T I L R pc (a0 :: a1 :: a2 :: a3 :: a4 :: a5 :: a6 :: tl) (.ref x :: st) := z_astoreW g hd (zst_6 hc) k
theorem zst2_6 (hc : zc1 a5 = true) {v : Value} : zst2 (a0 :: a1 :: a2 :: a3 :: a4 :: a5 :: a6 :: a7 :: tl) (a0 :: a1 :: a2 :: a3 :: a4 :: a5 :: some v :: none :: tl) 6 v := by
  refine ⟨by simp only [List.length_cons]; omega, by simp only [List.length_cons], fun j w h => ?_⟩
  match j, h with
  | 0, h => exact Or.inr ⟨h, by omega, by omega, fun e => by omega⟩
  | 1, h => exact Or.inr ⟨h, by omega, by omega, fun e => by omega⟩
  | 2, h => exact Or.inr ⟨h, by omega, by omega, fun e => by omega⟩
  | 3, h => exact Or.inr ⟨h, by omega, by omega, fun e => by omega⟩
  | 4, h => exact Or.inr ⟨h, by omega, by omega, fun e => by omega⟩
  | 5, h => exact Or.inr ⟨h, by omega, by omega, fun _ => zc1_ne hc (Option.some.inj h)⟩
  | 6, h => exact Or.inl ⟨rfl, (Option.some.inj (Option.some.inj h)).symm⟩
  | 7, h => exact absurd (Option.some.inj h) (fun z => by cases z)
  | j + 8, h => exact Or.inr ⟨h, by omega, by omega, fun e => by omega⟩
theorem z_ls6 {x : Int64} (g : zGd E G cc own nL d K S) (hd : decode cc pc = .ok (.lstore 6, 2)) (hc : zc1 a5 = true) (k : Z E G kc ks n T I L R (pc + 2) (a0 :: a1 :: a2 :: a3 :: a4 :: a5 :: some (.long x) :: none :: tl) st) : Z E G kc ks n T I L R pc (a0 :: a1 :: a2 :: a3 :: a4 :: a5 :: a6 :: a7 :: tl) (.long x :: st) := z_lstoreW g hd (zst2_6 hc) k
theorem z_inc6 {x v : Int32} {m : Int} (g : zGd E G cc own nL d K S) (hd : decode cc pc = .ok (.iinc 6 m, 3)) (hv : x + Int32.ofInt m = v) (hc : zc1 a5 = true) (k : Z E G kc ks n T I L R (pc + 3) (a0 :: a1 :: a2 :: a3 :: a4 :: a5 :: some (.int v) :: tl) st) : Z E G kc ks n T I L R pc (a0 :: a1 :: a2 :: a3 :: a4 :: a5 :: some (.int x) :: tl) st := z_iincG g hd rfl hv (zst_6 hc) k
theorem z_il7 {x : Int32} (g : zGd E G cc own nL d K S) (hd : decode cc pc = .ok (.iload 7, 2)) (k : Z E G kc ks n T I L R (pc + 2) (a0 :: a1 :: a2 :: a3 :: a4 :: a5 :: a6 :: some (.int x) :: tl) (.int x :: st)) : Z E G kc ks n T I L R pc (a0 :: a1 :: a2 :: a3 :: a4 :: a5 :: a6 :: some (.int x) :: tl) st := z_iloadW g hd rfl k
theorem z_ll7 {x : Int64} (g : zGd E G cc own nL d K S) (hd : decode cc pc = .ok (.lload 7, 2)) (k : Z E G kc ks n T I L R (pc + 2) (a0 :: a1 :: a2 :: a3 :: a4 :: a5 :: a6 :: some (.long x) :: tl) (.long x :: st)) : Z E G kc ks n T I L R pc (a0 :: a1 :: a2 :: a3 :: a4 :: a5 :: a6 :: some (.long x) :: tl) st := z_lloadW g hd rfl k
theorem z_al7 {x : Nat} (g : zGd E G cc own nL d K S) (hd : decode cc pc = .ok (.aload 7, 2)) (k : Z E G kc ks n T I L R (pc + 2) (a0 :: a1 :: a2 :: a3 :: a4 :: a5 :: a6 :: some (.ref x) :: tl) (.ref x :: st)) : Z E G kc ks n T I L R pc (a0 :: a1 :: a2 :: a3 :: a4 :: a5 :: a6 :: some (.ref x) :: tl) st := z_aloadW g hd rfl k
theorem zst_7 (hc : zc1 a6 = true) {v : Value} : zst (a0 :: a1 :: a2 :: a3 :: a4 :: a5 :: a6 :: a7 :: tl) (a0 :: a1 :: a2 :: a3 :: a4 :: a5 :: a6 :: some v :: tl) 7 v := by
  refine ⟨by simp only [List.length_cons]; omega, by simp only [List.length_cons], fun j w h => ?_⟩
  match j, h with
  | 0, h => exact Or.inr ⟨h, by omega, fun e => by omega⟩
  | 1, h => exact Or.inr ⟨h, by omega, fun e => by omega⟩
  | 2, h => exact Or.inr ⟨h, by omega, fun e => by omega⟩
  | 3, h => exact Or.inr ⟨h, by omega, fun e => by omega⟩
  | 4, h => exact Or.inr ⟨h, by omega, fun e => by omega⟩
  | 5, h => exact Or.inr ⟨h, by omega, fun e => by omega⟩
  | 6, h => exact Or.inr ⟨h, by omega, fun _ => zc1_ne hc (Option.some.inj h)⟩
  | 7, h => exact Or.inl ⟨rfl, (Option.some.inj (Option.some.inj h)).symm⟩
  | j + 8, h => exact Or.inr ⟨h, by omega, fun e => by omega⟩
theorem z_is7 {x : Int32} (g : zGd E G cc own nL d K S) (hd : decode cc pc = .ok (.istore 7, 2)) (hc : zc1 a6 = true) (k : Z E G kc ks n T I L R (pc + 2) (a0 :: a1 :: a2 :: a3 :: a4 :: a5 :: a6 :: some (.int x) :: tl) st) : Z E G kc ks n T I L R pc (a0 :: a1 :: a2 :: a3 :: a4 :: a5 :: a6 :: a7 :: tl) (.int x :: st) := z_istoreW g hd (zst_7 hc) k
theorem z_as7 {x : Nat} (g : zGd E G cc own nL d K S) (hd : decode cc pc = .ok (.astore 7, 2)) (hc : zc1 a6 = true) (k : Z E G kc ks n T I L R (pc + 2) (a0 :: a1 :: a2 :: a3 :: a4 :: a5 :: a6 :: some (.ref x) :: tl) st) : Z E G kc ks n T I L R pc (a0 :: a1 :: a2 :: a3 :: a4 :: a5 :: a6 :: a7 :: tl) (.ref x :: st) := z_astoreW g hd (zst_7 hc) k
theorem zst2_7 (hc : zc1 a6 = true) {v : Value} : zst2 (a0 :: a1 :: a2 :: a3 :: a4 :: a5 :: a6 :: a7 :: a8 :: tl) (a0 :: a1 :: a2 :: a3 :: a4 :: a5 :: a6 :: some v :: none :: tl) 7 v := by
  refine ⟨by simp only [List.length_cons]; omega, by simp only [List.length_cons], fun j w h => ?_⟩
  match j, h with
  | 0, h => exact Or.inr ⟨h, by omega, by omega, fun e => by omega⟩
  | 1, h => exact Or.inr ⟨h, by omega, by omega, fun e => by omega⟩
  | 2, h => exact Or.inr ⟨h, by omega, by omega, fun e => by omega⟩
  | 3, h => exact Or.inr ⟨h, by omega, by omega, fun e => by omega⟩
  | 4, h => exact Or.inr ⟨h, by omega, by omega, fun e => by omega⟩
  | 5, h => exact Or.inr ⟨h, by omega, by omega, fun e => by omega⟩
  | 6, h => exact Or.inr ⟨h, by omega, by omega, fun _ => zc1_ne hc (Option.some.inj h)⟩
  | 7, h => exact Or.inl ⟨rfl, (Option.some.inj (Option.some.inj h)).symm⟩
  | 8, h => exact absurd (Option.some.inj h) (fun z => by cases z)
  | j + 9, h => exact Or.inr ⟨h, by omega, by omega, fun e => by omega⟩
theorem z_ls7 {x : Int64} (g : zGd E G cc own nL d K S) (hd : decode cc pc = .ok (.lstore 7, 2)) (hc : zc1 a6 = true) (k : Z E G kc ks n T I L R (pc + 2) (a0 :: a1 :: a2 :: a3 :: a4 :: a5 :: a6 :: some (.long x) :: none :: tl) st) : Z E G kc ks n T I L R pc (a0 :: a1 :: a2 :: a3 :: a4 :: a5 :: a6 :: a7 :: a8 :: tl) (.long x :: st) := z_lstoreW g hd (zst2_7 hc) k
theorem z_inc7 {x v : Int32} {m : Int} (g : zGd E G cc own nL d K S) (hd : decode cc pc = .ok (.iinc 7 m, 3)) (hv : x + Int32.ofInt m = v) (hc : zc1 a6 = true) (k : Z E G kc ks n T I L R (pc + 3) (a0 :: a1 :: a2 :: a3 :: a4 :: a5 :: a6 :: some (.int v) :: tl) st) : Z E G kc ks n T I L R pc (a0 :: a1 :: a2 :: a3 :: a4 :: a5 :: a6 :: some (.int x) :: tl) st := z_iincG g hd rfl hv (zst_7 hc) k
theorem z_il8 {x : Int32} (g : zGd E G cc own nL d K S) (hd : decode cc pc = .ok (.iload 8, 2)) (k : Z E G kc ks n T I L R (pc + 2) (a0 :: a1 :: a2 :: a3 :: a4 :: a5 :: a6 :: a7 :: some (.int x) :: tl) (.int x :: st)) : Z E G kc ks n T I L R pc (a0 :: a1 :: a2 :: a3 :: a4 :: a5 :: a6 :: a7 :: some (.int x) :: tl) st := z_iloadW g hd rfl k
theorem z_ll8 {x : Int64} (g : zGd E G cc own nL d K S) (hd : decode cc pc = .ok (.lload 8, 2)) (k : Z E G kc ks n T I L R (pc + 2) (a0 :: a1 :: a2 :: a3 :: a4 :: a5 :: a6 :: a7 :: some (.long x) :: tl) (.long x :: st)) : Z E G kc ks n T I L R pc (a0 :: a1 :: a2 :: a3 :: a4 :: a5 :: a6 :: a7 :: some (.long x) :: tl) st := z_lloadW g hd rfl k
theorem z_al8 {x : Nat} (g : zGd E G cc own nL d K S) (hd : decode cc pc = .ok (.aload 8, 2)) (k : Z E G kc ks n T I L R (pc + 2) (a0 :: a1 :: a2 :: a3 :: a4 :: a5 :: a6 :: a7 :: some (.ref x) :: tl) (.ref x :: st)) : Z E G kc ks n T I L R pc (a0 :: a1 :: a2 :: a3 :: a4 :: a5 :: a6 :: a7 :: some (.ref x) :: tl) st := z_aloadW g hd rfl k
theorem zst_8 (hc : zc1 a7 = true) {v : Value} : zst (a0 :: a1 :: a2 :: a3 :: a4 :: a5 :: a6 :: a7 :: a8 :: tl) (a0 :: a1 :: a2 :: a3 :: a4 :: a5 :: a6 :: a7 :: some v :: tl) 8 v := by
  refine ⟨by simp only [List.length_cons]; omega, by simp only [List.length_cons], fun j w h => ?_⟩
  match j, h with
  | 0, h => exact Or.inr ⟨h, by omega, fun e => by omega⟩
  | 1, h => exact Or.inr ⟨h, by omega, fun e => by omega⟩
  | 2, h => exact Or.inr ⟨h, by omega, fun e => by omega⟩
  | 3, h => exact Or.inr ⟨h, by omega, fun e => by omega⟩
  | 4, h => exact Or.inr ⟨h, by omega, fun e => by omega⟩
  | 5, h => exact Or.inr ⟨h, by omega, fun e => by omega⟩
  | 6, h => exact Or.inr ⟨h, by omega, fun e => by omega⟩
  | 7, h => exact Or.inr ⟨h, by omega, fun _ => zc1_ne hc (Option.some.inj h)⟩
  | 8, h => exact Or.inl ⟨rfl, (Option.some.inj (Option.some.inj h)).symm⟩
  | j + 9, h => exact Or.inr ⟨h, by omega, fun e => by omega⟩
theorem z_is8 {x : Int32} (g : zGd E G cc own nL d K S) (hd : decode cc pc = .ok (.istore 8, 2)) (hc : zc1 a7 = true) (k : Z E G kc ks n T I L R (pc + 2) (a0 :: a1 :: a2 :: a3 :: a4 :: a5 :: a6 :: a7 :: some (.int x) :: tl) st) : Z E G kc ks n T I L R pc (a0 :: a1 :: a2 :: a3 :: a4 :: a5 :: a6 :: a7 :: a8 :: tl) (.int x :: st) := z_istoreW g hd (zst_8 hc) k
theorem z_as8 {x : Nat} (g : zGd E G cc own nL d K S) (hd : decode cc pc = .ok (.astore 8, 2)) (hc : zc1 a7 = true) (k : Z E G kc ks n T I L R (pc + 2) (a0 :: a1 :: a2 :: a3 :: a4 :: a5 :: a6 :: a7 :: some (.ref x) :: tl) st) : Z E G kc ks n T I L R pc (a0 :: a1 :: a2 :: a3 :: a4 :: a5 :: a6 :: a7 :: a8 :: tl) (.ref x :: st) := z_astoreW g hd (zst_8 hc) k
theorem zst2_8 (hc : zc1 a7 = true) {v : Value} : zst2 (a0 :: a1 :: a2 :: a3 :: a4 :: a5 :: a6 :: a7 :: a8 :: a9 :: tl) (a0 :: a1 :: a2 :: a3 :: a4 :: a5 :: a6 :: a7 :: some v :: none :: tl) 8 v := by
  refine ⟨by simp only [List.length_cons]; omega, by simp only [List.length_cons], fun j w h => ?_⟩
  match j, h with
  | 0, h => exact Or.inr ⟨h, by omega, by omega, fun e => by omega⟩
  | 1, h => exact Or.inr ⟨h, by omega, by omega, fun e => by omega⟩
  | 2, h => exact Or.inr ⟨h, by omega, by omega, fun e => by omega⟩
  | 3, h => exact Or.inr ⟨h, by omega, by omega, fun e => by omega⟩
  | 4, h => exact Or.inr ⟨h, by omega, by omega, fun e => by omega⟩
  | 5, h => exact Or.inr ⟨h, by omega, by omega, fun e => by omega⟩
  | 6, h => exact Or.inr ⟨h, by omega, by omega, fun e => by omega⟩
  | 7, h => exact Or.inr ⟨h, by omega, by omega, fun _ => zc1_ne hc (Option.some.inj h)⟩
  | 8, h => exact Or.inl ⟨rfl, (Option.some.inj (Option.some.inj h)).symm⟩
  | 9, h => exact absurd (Option.some.inj h) (fun z => by cases z)
  | j + 10, h => exact Or.inr ⟨h, by omega, by omega, fun e => by omega⟩
theorem z_ls8 {x : Int64} (g : zGd E G cc own nL d K S) (hd : decode cc pc = .ok (.lstore 8, 2)) (hc : zc1 a7 = true) (k : Z E G kc ks n T I L R (pc + 2) (a0 :: a1 :: a2 :: a3 :: a4 :: a5 :: a6 :: a7 :: some (.long x) :: none :: tl) st) : Z E G kc ks n T I L R pc (a0 :: a1 :: a2 :: a3 :: a4 :: a5 :: a6 :: a7 :: a8 :: a9 :: tl) (.long x :: st) := z_lstoreW g hd (zst2_8 hc) k
theorem z_inc8 {x v : Int32} {m : Int} (g : zGd E G cc own nL d K S) (hd : decode cc pc = .ok (.iinc 8 m, 3)) (hv : x + Int32.ofInt m = v) (hc : zc1 a7 = true) (k : Z E G kc ks n T I L R (pc + 3) (a0 :: a1 :: a2 :: a3 :: a4 :: a5 :: a6 :: a7 :: some (.int v) :: tl) st) : Z E G kc ks n T I L R pc (a0 :: a1 :: a2 :: a3 :: a4 :: a5 :: a6 :: a7 :: some (.int x) :: tl) st := z_iincG g hd rfl hv (zst_8 hc) k
theorem z_il9 {x : Int32} (g : zGd E G cc own nL d K S) (hd : decode cc pc = .ok (.iload 9, 2)) (k : Z E G kc ks n T I L R (pc + 2) (a0 :: a1 :: a2 :: a3 :: a4 :: a5 :: a6 :: a7 :: a8 :: some (.int x) :: tl) (.int x :: st)) : Z E G kc ks n T I L R pc (a0 :: a1 :: a2 :: a3 :: a4 :: a5 :: a6 :: a7 :: a8 :: some (.int x) :: tl) st := z_iloadW g hd rfl k
theorem z_ll9 {x : Int64} (g : zGd E G cc own nL d K S) (hd : decode cc pc = .ok (.lload 9, 2)) (k : Z E G kc ks n T I L R (pc + 2) (a0 :: a1 :: a2 :: a3 :: a4 :: a5 :: a6 :: a7 :: a8 :: some (.long x) :: tl) (.long x :: st)) : Z E G kc ks n T I L R pc (a0 :: a1 :: a2 :: a3 :: a4 :: a5 :: a6 :: a7 :: a8 :: some (.long x) :: tl) st := z_lloadW g hd rfl k
theorem z_al9 {x : Nat} (g : zGd E G cc own nL d K S) (hd : decode cc pc = .ok (.aload 9, 2)) (k : Z E G kc ks n T I L R (pc + 2) (a0 :: a1 :: a2 :: a3 :: a4 :: a5 :: a6 :: a7 :: a8 :: some (.ref x) :: tl) (.ref x :: st)) : Z E G kc ks n T I L R pc (a0 :: a1 :: a2 :: a3 :: a4 :: a5 :: a6 :: a7 :: a8 :: some (.ref x) :: tl) st := z_aloadW g hd rfl k
theorem zst_9 (hc : zc1 a8 = true) {v : Value} : zst (a0 :: a1 :: a2 :: a3 :: a4 :: a5 :: a6 :: a7 :: a8 :: a9 :: tl) (a0 :: a1 :: a2 :: a3 :: a4 :: a5 :: a6 :: a7 :: a8 :: some v :: tl) 9 v := by
  refine ⟨by simp only [List.length_cons]; omega, by simp only [List.length_cons], fun j w h => ?_⟩
  match j, h with
  | 0, h => exact Or.inr ⟨h, by omega, fun e => by omega⟩
  | 1, h => exact Or.inr ⟨h, by omega, fun e => by omega⟩
  | 2, h => exact Or.inr ⟨h, by omega, fun e => by omega⟩
  | 3, h => exact Or.inr ⟨h, by omega, fun e => by omega⟩
  | 4, h => exact Or.inr ⟨h, by omega, fun e => by omega⟩
  | 5, h => exact Or.inr ⟨h, by omega, fun e => by omega⟩
  | 6, h => exact Or.inr ⟨h, by omega, fun e => by omega⟩
  | 7, h => exact Or.inr ⟨h, by omega, fun e => by omega⟩
  | 8, h => exact Or.inr ⟨h, by omega, fun _ => zc1_ne hc (Option.some.inj h)⟩
  | 9, h => exact Or.inl ⟨rfl, (Option.some.inj (Option.some.inj h)).symm⟩
  | j + 10, h => exact Or.inr ⟨h, by omega, fun e => by omega⟩
theorem z_is9 {x : Int32} (g : zGd E G cc own nL d K S) (hd : decode cc pc = .ok (.istore 9, 2)) (hc : zc1 a8 = true) (k : Z E G kc ks n T I L R (pc + 2) (a0 :: a1 :: a2 :: a3 :: a4 :: a5 :: a6 :: a7 :: a8 :: some (.int x) :: tl) st) : Z E G kc ks n T I L R pc (a0 :: a1 :: a2 :: a3 :: a4 :: a5 :: a6 :: a7 :: a8 :: a9 :: tl) (.int x :: st) := z_istoreW g hd (zst_9 hc) k
theorem z_as9 {x : Nat} (g : zGd E G cc own nL d K S) (hd : decode cc pc = .ok (.astore 9, 2)) (hc : zc1 a8 = true) (k : Z E G kc ks n T I L R (pc + 2) (a0 :: a1 :: a2 :: a3 :: a4 :: a5 :: a6 :: a7 :: a8 :: some (.ref x) :: tl) st) : Z E G kc ks n T I L R pc (a0 :: a1 :: a2 :: a3 :: a4 :: a5 :: a6 :: a7 :: a8 :: a9 :: tl) (.ref x :: st) := z_astoreW g hd (zst_9 hc) k
theorem zst2_9 (hc : zc1 a8 = true) {v : Value} : zst2 (a0 :: a1 :: a2 :: a3 :: a4 :: a5 :: a6 :: a7 :: a8 :: a9 :: a10 :: tl) (a0 :: a1 :: a2 :: a3 :: a4 :: a5 :: a6 :: a7 :: a8 :: some v :: none :: tl) 9 v := by
  refine ⟨by simp only [List.length_cons]; omega, by simp only [List.length_cons], fun j w h => ?_⟩
  match j, h with
  | 0, h => exact Or.inr ⟨h, by omega, by omega, fun e => by omega⟩
  | 1, h => exact Or.inr ⟨h, by omega, by omega, fun e => by omega⟩
  | 2, h => exact Or.inr ⟨h, by omega, by omega, fun e => by omega⟩
  | 3, h => exact Or.inr ⟨h, by omega, by omega, fun e => by omega⟩
  | 4, h => exact Or.inr ⟨h, by omega, by omega, fun e => by omega⟩
  | 5, h => exact Or.inr ⟨h, by omega, by omega, fun e => by omega⟩
  | 6, h => exact Or.inr ⟨h, by omega, by omega, fun e => by omega⟩
  | 7, h => exact Or.inr ⟨h, by omega, by omega, fun e => by omega⟩
  | 8, h => exact Or.inr ⟨h, by omega, by omega, fun _ => zc1_ne hc (Option.some.inj h)⟩
  | 9, h => exact Or.inl ⟨rfl, (Option.some.inj (Option.some.inj h)).symm⟩
  | 10, h => exact absurd (Option.some.inj h) (fun z => by cases z)
  | j + 11, h => exact Or.inr ⟨h, by omega, by omega, fun e => by omega⟩
theorem z_ls9 {x : Int64} (g : zGd E G cc own nL d K S) (hd : decode cc pc = .ok (.lstore 9, 2)) (hc : zc1 a8 = true) (k : Z E G kc ks n T I L R (pc + 2) (a0 :: a1 :: a2 :: a3 :: a4 :: a5 :: a6 :: a7 :: a8 :: some (.long x) :: none :: tl) st) : Z E G kc ks n T I L R pc (a0 :: a1 :: a2 :: a3 :: a4 :: a5 :: a6 :: a7 :: a8 :: a9 :: a10 :: tl) (.long x :: st) := z_lstoreW g hd (zst2_9 hc) k
theorem z_inc9 {x v : Int32} {m : Int} (g : zGd E G cc own nL d K S) (hd : decode cc pc = .ok (.iinc 9 m, 3)) (hv : x + Int32.ofInt m = v) (hc : zc1 a8 = true) (k : Z E G kc ks n T I L R (pc + 3) (a0 :: a1 :: a2 :: a3 :: a4 :: a5 :: a6 :: a7 :: a8 :: some (.int v) :: tl) st) : Z E G kc ks n T I L R pc (a0 :: a1 :: a2 :: a3 :: a4 :: a5 :: a6 :: a7 :: a8 :: some (.int x) :: tl) st := z_iincG g hd rfl hv (zst_9 hc) k
theorem z_il10 {x : Int32} (g : zGd E G cc own nL d K S) (hd : decode cc pc = .ok (.iload 10, 2)) (k : Z E G kc ks n T I L R (pc + 2) (a0 :: a1 :: a2 :: a3 :: a4 :: a5 :: a6 :: a7 :: a8 :: a9 :: some (.int x) :: tl) (.int x :: st)) : Z E G kc ks n T I L R pc (a0 :: a1 :: a2 :: a3 :: a4 :: a5 :: a6 :: a7 :: a8 :: a9 :: some (.int x) :: tl) st := z_iloadW g hd rfl k
theorem z_ll10 {x : Int64} (g : zGd E G cc own nL d K S) (hd : decode cc pc = .ok (.lload 10, 2)) (k : Z E G kc ks n T I L R (pc + 2) (a0 :: a1 :: a2 :: a3 :: a4 :: a5 :: a6 :: a7 :: a8 :: a9 :: some (.long x) :: tl) (.long x :: st)) : Z E G kc ks n T I L R pc (a0 :: a1 :: a2 :: a3 :: a4 :: a5 :: a6 :: a7 :: a8 :: a9 :: some (.long x) :: tl) st := z_lloadW g hd rfl k
theorem z_al10 {x : Nat} (g : zGd E G cc own nL d K S) (hd : decode cc pc = .ok (.aload 10, 2)) (k : Z E G kc ks n T I L R (pc + 2) (a0 :: a1 :: a2 :: a3 :: a4 :: a5 :: a6 :: a7 :: a8 :: a9 :: some (.ref x) :: tl) (.ref x :: st)) : Z E G kc ks n T I L R pc (a0 :: a1 :: a2 :: a3 :: a4 :: a5 :: a6 :: a7 :: a8 :: a9 :: some (.ref x) :: tl) st := z_aloadW g hd rfl k
theorem zst_10 (hc : zc1 a9 = true) {v : Value} : zst (a0 :: a1 :: a2 :: a3 :: a4 :: a5 :: a6 :: a7 :: a8 :: a9 :: a10 :: tl) (a0 :: a1 :: a2 :: a3 :: a4 :: a5 :: a6 :: a7 :: a8 :: a9 :: some v :: tl) 10 v := by
  refine ⟨by simp only [List.length_cons]; omega, by simp only [List.length_cons], fun j w h => ?_⟩
  match j, h with
  | 0, h => exact Or.inr ⟨h, by omega, fun e => by omega⟩
  | 1, h => exact Or.inr ⟨h, by omega, fun e => by omega⟩
  | 2, h => exact Or.inr ⟨h, by omega, fun e => by omega⟩
  | 3, h => exact Or.inr ⟨h, by omega, fun e => by omega⟩
  | 4, h => exact Or.inr ⟨h, by omega, fun e => by omega⟩
  | 5, h => exact Or.inr ⟨h, by omega, fun e => by omega⟩
  | 6, h => exact Or.inr ⟨h, by omega, fun e => by omega⟩
  | 7, h => exact Or.inr ⟨h, by omega, fun e => by omega⟩
  | 8, h => exact Or.inr ⟨h, by omega, fun e => by omega⟩
  | 9, h => exact Or.inr ⟨h, by omega, fun _ => zc1_ne hc (Option.some.inj h)⟩
  | 10, h => exact Or.inl ⟨rfl, (Option.some.inj (Option.some.inj h)).symm⟩
  | j + 11, h => exact Or.inr ⟨h, by omega, fun e => by omega⟩
theorem z_is10 {x : Int32} (g : zGd E G cc own nL d K S) (hd : decode cc pc = .ok (.istore 10, 2)) (hc : zc1 a9 = true) (k : Z E G kc ks n T I L R (pc + 2) (a0 :: a1 :: a2 :: a3 :: a4 :: a5 :: a6 :: a7 :: a8 :: a9 :: some (.int x) :: tl) st) : Z E G kc ks n T I L R pc (a0 :: a1 :: a2 :: a3 :: a4 :: a5 :: a6 :: a7 :: a8 :: a9 :: a10 :: tl) (.int x :: st) := z_istoreW g hd (zst_10 hc) k
theorem z_as10 {x : Nat} (g : zGd E G cc own nL d K S) (hd : decode cc pc = .ok (.astore 10, 2)) (hc : zc1 a9 = true) (k : Z E G kc ks n T I L R (pc + 2) (a0 :: a1 :: a2 :: a3 :: a4 :: a5 :: a6 :: a7 :: a8 :: a9 :: some (.ref x) :: tl) st) : Z E G kc ks n T I L R pc (a0 :: a1 :: a2 :: a3 :: a4 :: a5 :: a6 :: a7 :: a8 :: a9 :: a10 :: tl) (.ref x :: st) := z_astoreW g hd (zst_10 hc) k
theorem zst2_10 (hc : zc1 a9 = true) {v : Value} : zst2 (a0 :: a1 :: a2 :: a3 :: a4 :: a5 :: a6 :: a7 :: a8 :: a9 :: a10 :: a11 :: tl) (a0 :: a1 :: a2 :: a3 :: a4 :: a5 :: a6 :: a7 :: a8 :: a9 :: some v :: none :: tl) 10 v := by
  refine ⟨by simp only [List.length_cons]; omega, by simp only [List.length_cons], fun j w h => ?_⟩
  match j, h with
  | 0, h => exact Or.inr ⟨h, by omega, by omega, fun e => by omega⟩
  | 1, h => exact Or.inr ⟨h, by omega, by omega, fun e => by omega⟩
  | 2, h => exact Or.inr ⟨h, by omega, by omega, fun e => by omega⟩
  | 3, h => exact Or.inr ⟨h, by omega, by omega, fun e => by omega⟩
  | 4, h => exact Or.inr ⟨h, by omega, by omega, fun e => by omega⟩
  | 5, h => exact Or.inr ⟨h, by omega, by omega, fun e => by omega⟩
  | 6, h => exact Or.inr ⟨h, by omega, by omega, fun e => by omega⟩
  | 7, h => exact Or.inr ⟨h, by omega, by omega, fun e => by omega⟩
  | 8, h => exact Or.inr ⟨h, by omega, by omega, fun e => by omega⟩
  | 9, h => exact Or.inr ⟨h, by omega, by omega, fun _ => zc1_ne hc (Option.some.inj h)⟩
  | 10, h => exact Or.inl ⟨rfl, (Option.some.inj (Option.some.inj h)).symm⟩
  | 11, h => exact absurd (Option.some.inj h) (fun z => by cases z)
  | j + 12, h => exact Or.inr ⟨h, by omega, by omega, fun e => by omega⟩
theorem z_ls10 {x : Int64} (g : zGd E G cc own nL d K S) (hd : decode cc pc = .ok (.lstore 10, 2)) (hc : zc1 a9 = true) (k : Z E G kc ks n T I L R (pc + 2) (a0 :: a1 :: a2 :: a3 :: a4 :: a5 :: a6 :: a7 :: a8 :: a9 :: some (.long x) :: none :: tl) st) : Z E G kc ks n T I L R pc (a0 :: a1 :: a2 :: a3 :: a4 :: a5 :: a6 :: a7 :: a8 :: a9 :: a10 :: a11 :: tl) (.long x :: st) := z_lstoreW g hd (zst2_10 hc) k
theorem z_inc10 {x v : Int32} {m : Int} (g : zGd E G cc own nL d K S) (hd : decode cc pc = .ok (.iinc 10 m, 3)) (hv : x + Int32.ofInt m = v) (hc : zc1 a9 = true) (k : Z E G kc ks n T I L R (pc + 3) (a0 :: a1 :: a2 :: a3 :: a4 :: a5 :: a6 :: a7 :: a8 :: a9 :: some (.int v) :: tl) st) : Z E G kc ks n T I L R pc (a0 :: a1 :: a2 :: a3 :: a4 :: a5 :: a6 :: a7 :: a8 :: a9 :: some (.int x) :: tl) st := z_iincG g hd rfl hv (zst_10 hc) k
theorem z_il11 {x : Int32} (g : zGd E G cc own nL d K S) (hd : decode cc pc = .ok (.iload 11, 2)) (k : Z E G kc ks n T I L R (pc + 2) (a0 :: a1 :: a2 :: a3 :: a4 :: a5 :: a6 :: a7 :: a8 :: a9 :: a10 :: some (.int x) :: tl) (.int x :: st)) : Z E G kc ks n T I L R pc (a0 :: a1 :: a2 :: a3 :: a4 :: a5 :: a6 :: a7 :: a8 :: a9 :: a10 :: some (.int x) :: tl) st := z_iloadW g hd rfl k
theorem z_ll11 {x : Int64} (g : zGd E G cc own nL d K S) (hd : decode cc pc = .ok (.lload 11, 2)) (k : Z E G kc ks n T I L R (pc + 2) (a0 :: a1 :: a2 :: a3 :: a4 :: a5 :: a6 :: a7 :: a8 :: a9 :: a10 :: some (.long x) :: tl) (.long x :: st)) : Z E G kc ks n T I L R pc (a0 :: a1 :: a2 :: a3 :: a4 :: a5 :: a6 :: a7 :: a8 :: a9 :: a10 :: some (.long x) :: tl) st := z_lloadW g hd rfl k
theorem z_al11 {x : Nat} (g : zGd E G cc own nL d K S) (hd : decode cc pc = .ok (.aload 11, 2)) (k : Z E G kc ks n T I L R (pc + 2) (a0 :: a1 :: a2 :: a3 :: a4 :: a5 :: a6 :: a7 :: a8 :: a9 :: a10 :: some (.ref x) :: tl) (.ref x :: st)) : Z E G kc ks n T I L R pc (a0 :: a1 :: a2 :: a3 :: a4 :: a5 :: a6 :: a7 :: a8 :: a9 :: a10 :: some (.ref x) :: tl) st := z_aloadW g hd rfl k
theorem zst_11 (hc : zc1 a10 = true) {v : Value} : zst (a0 :: a1 :: a2 :: a3 :: a4 :: a5 :: a6 :: a7 :: a8 :: a9 :: a10 :: a11 :: tl) (a0 :: a1 :: a2 :: a3 :: a4 :: a5 :: a6 :: a7 :: a8 :: a9 :: a10 :: some v :: tl) 11 v := by
  refine ⟨by simp only [List.length_cons]; omega, by simp only [List.length_cons], fun j w h => ?_⟩
  match j, h with
  | 0, h => exact Or.inr ⟨h, by omega, fun e => by omega⟩
  | 1, h => exact Or.inr ⟨h, by omega, fun e => by omega⟩
  | 2, h => exact Or.inr ⟨h, by omega, fun e => by omega⟩
  | 3, h => exact Or.inr ⟨h, by omega, fun e => by omega⟩
  | 4, h => exact Or.inr ⟨h, by omega, fun e => by omega⟩
  | 5, h => exact Or.inr ⟨h, by omega, fun e => by omega⟩
  | 6, h => exact Or.inr ⟨h, by omega, fun e => by omega⟩
  | 7, h => exact Or.inr ⟨h, by omega, fun e => by omega⟩
  | 8, h => exact Or.inr ⟨h, by omega, fun e => by omega⟩
  | 9, h => exact Or.inr ⟨h, by omega, fun e => by omega⟩
  | 10, h => exact Or.inr ⟨h, by omega, fun _ => zc1_ne hc (Option.some.inj h)⟩
  | 11, h => exact Or.inl ⟨rfl, (Option.some.inj (Option.some.inj h)).symm⟩
  | j + 12, h => exact Or.inr ⟨h, by omega, fun e => by omega⟩
theorem z_is11 {x : Int32} (g : zGd E G cc own nL d K S) (hd : decode cc pc = .ok (.istore 11, 2)) (hc : zc1 a10 = true) (k : Z E G kc ks n T I L R (pc + 2) (a0 :: a1 :: a2 :: a3 :: a4 :: a5 :: a6 :: a7 :: a8 :: a9 :: a10 :: some (.int x) :: tl) st) : Z E G kc ks n T I L R pc (a0 :: a1 :: a2 :: a3 :: a4 :: a5 :: a6 :: a7 :: a8 :: a9 :: a10 :: a11 :: tl) (.int x :: st) := z_istoreW g hd (zst_11 hc) k
theorem z_as11 {x : Nat} (g : zGd E G cc own nL d K S) (hd : decode cc pc = .ok (.astore 11, 2)) (hc : zc1 a10 = true) (k : Z E G kc ks n T I L R (pc + 2) (a0 :: a1 :: a2 :: a3 :: a4 :: a5 :: a6 :: a7 :: a8 :: a9 :: a10 :: some (.ref x) :: tl) st) : Z E G kc ks n T I L R pc (a0 :: a1 :: a2 :: a3 :: a4 :: a5 :: a6 :: a7 :: a8 :: a9 :: a10 :: a11 :: tl) (.ref x :: st) := z_astoreW g hd (zst_11 hc) k
theorem zst2_11 (hc : zc1 a10 = true) {v : Value} : zst2 (a0 :: a1 :: a2 :: a3 :: a4 :: a5 :: a6 :: a7 :: a8 :: a9 :: a10 :: a11 :: a12 :: tl) (a0 :: a1 :: a2 :: a3 :: a4 :: a5 :: a6 :: a7 :: a8 :: a9 :: a10 :: some v :: none :: tl) 11 v := by
  refine ⟨by simp only [List.length_cons]; omega, by simp only [List.length_cons], fun j w h => ?_⟩
  match j, h with
  | 0, h => exact Or.inr ⟨h, by omega, by omega, fun e => by omega⟩
  | 1, h => exact Or.inr ⟨h, by omega, by omega, fun e => by omega⟩
  | 2, h => exact Or.inr ⟨h, by omega, by omega, fun e => by omega⟩
  | 3, h => exact Or.inr ⟨h, by omega, by omega, fun e => by omega⟩
  | 4, h => exact Or.inr ⟨h, by omega, by omega, fun e => by omega⟩
  | 5, h => exact Or.inr ⟨h, by omega, by omega, fun e => by omega⟩
  | 6, h => exact Or.inr ⟨h, by omega, by omega, fun e => by omega⟩
  | 7, h => exact Or.inr ⟨h, by omega, by omega, fun e => by omega⟩
  | 8, h => exact Or.inr ⟨h, by omega, by omega, fun e => by omega⟩
  | 9, h => exact Or.inr ⟨h, by omega, by omega, fun e => by omega⟩
  | 10, h => exact Or.inr ⟨h, by omega, by omega, fun _ => zc1_ne hc (Option.some.inj h)⟩
  | 11, h => exact Or.inl ⟨rfl, (Option.some.inj (Option.some.inj h)).symm⟩
  | 12, h => exact absurd (Option.some.inj h) (fun z => by cases z)
  | j + 13, h => exact Or.inr ⟨h, by omega, by omega, fun e => by omega⟩
theorem z_ls11 {x : Int64} (g : zGd E G cc own nL d K S) (hd : decode cc pc = .ok (.lstore 11, 2)) (hc : zc1 a10 = true) (k : Z E G kc ks n T I L R (pc + 2) (a0 :: a1 :: a2 :: a3 :: a4 :: a5 :: a6 :: a7 :: a8 :: a9 :: a10 :: some (.long x) :: none :: tl) st) : Z E G kc ks n T I L R pc (a0 :: a1 :: a2 :: a3 :: a4 :: a5 :: a6 :: a7 :: a8 :: a9 :: a10 :: a11 :: a12 :: tl) (.long x :: st) := z_lstoreW g hd (zst2_11 hc) k
theorem z_inc11 {x v : Int32} {m : Int} (g : zGd E G cc own nL d K S) (hd : decode cc pc = .ok (.iinc 11 m, 3)) (hv : x + Int32.ofInt m = v) (hc : zc1 a10 = true) (k : Z E G kc ks n T I L R (pc + 3) (a0 :: a1 :: a2 :: a3 :: a4 :: a5 :: a6 :: a7 :: a8 :: a9 :: a10 :: some (.int v) :: tl) st) : Z E G kc ks n T I L R pc (a0 :: a1 :: a2 :: a3 :: a4 :: a5 :: a6 :: a7 :: a8 :: a9 :: a10 :: some (.int x) :: tl) st := z_iincG g hd rfl hv (zst_11 hc) k
theorem z_il12 {x : Int32} (g : zGd E G cc own nL d K S) (hd : decode cc pc = .ok (.iload 12, 2)) (k : Z E G kc ks n T I L R (pc + 2) (a0 :: a1 :: a2 :: a3 :: a4 :: a5 :: a6 :: a7 :: a8 :: a9 :: a10 :: a11 :: some (.int x) :: tl) (.int x :: st)) : Z E G kc ks n T I L R pc (a0 :: a1 :: a2 :: a3 :: a4 :: a5 :: a6 :: a7 :: a8 :: a9 :: a10 :: a11 :: some (.int x) :: tl) st := z_iloadW g hd rfl k
theorem z_ll12 {x : Int64} (g : zGd E G cc own nL d K S) (hd : decode cc pc = .ok (.lload 12, 2)) (k : Z E G kc ks n T I L R (pc + 2) (a0 :: a1 :: a2 :: a3 :: a4 :: a5 :: a6 :: a7 :: a8 :: a9 :: a10 :: a11 :: some (.long x) :: tl) (.long x :: st)) : Z E G kc ks n T I L R pc (a0 :: a1 :: a2 :: a3 :: a4 :: a5 :: a6 :: a7 :: a8 :: a9 :: a10 :: a11 :: some (.long x) :: tl) st := z_lloadW g hd rfl k
theorem z_al12 {x : Nat} (g : zGd E G cc own nL d K S) (hd : decode cc pc = .ok (.aload 12, 2)) (k : Z E G kc ks n T I L R (pc + 2) (a0 :: a1 :: a2 :: a3 :: a4 :: a5 :: a6 :: a7 :: a8 :: a9 :: a10 :: a11 :: some (.ref x) :: tl) (.ref x :: st)) : Z E G kc ks n T I L R pc (a0 :: a1 :: a2 :: a3 :: a4 :: a5 :: a6 :: a7 :: a8 :: a9 :: a10 :: a11 :: some (.ref x) :: tl) st := z_aloadW g hd rfl k
theorem zst_12 (hc : zc1 a11 = true) {v : Value} : zst (a0 :: a1 :: a2 :: a3 :: a4 :: a5 :: a6 :: a7 :: a8 :: a9 :: a10 :: a11 :: a12 :: tl) (a0 :: a1 :: a2 :: a3 :: a4 :: a5 :: a6 :: a7 :: a8 :: a9 :: a10 :: a11 :: some v :: tl) 12 v := by
  refine ⟨by simp only [List.length_cons]; omega, by simp only [List.length_cons], fun j w h => ?_⟩
  match j, h with
  | 0, h => exact Or.inr ⟨h, by omega, fun e => by omega⟩
  | 1, h => exact Or.inr ⟨h, by omega, fun e => by omega⟩
  | 2, h => exact Or.inr ⟨h, by omega, fun e => by omega⟩
  | 3, h => exact Or.inr ⟨h, by omega, fun e => by omega⟩
  | 4, h => exact Or.inr ⟨h, by omega, fun e => by omega⟩
  | 5, h => exact Or.inr ⟨h, by omega, fun e => by omega⟩
  | 6, h => exact Or.inr ⟨h, by omega, fun e => by omega⟩
  | 7, h => exact Or.inr ⟨h, by omega, fun e => by omega⟩
  | 8, h => exact Or.inr ⟨h, by omega, fun e => by omega⟩
  | 9, h => exact Or.inr ⟨h, by omega, fun e => by omega⟩
  | 10, h => exact Or.inr ⟨h, by omega, fun e => by omega⟩
  | 11, h => exact Or.inr ⟨h, by omega, fun _ => zc1_ne hc (Option.some.inj h)⟩
  | 12, h => exact Or.inl ⟨rfl, (Option.some.inj (Option.some.inj h)).symm⟩
  | j + 13, h => exact Or.inr ⟨h, by omega, fun e => by omega⟩
theorem z_is12 {x : Int32} (g : zGd E G cc own nL d K S) (hd : decode cc pc = .ok (.istore 12, 2)) (hc : zc1 a11 = true) (k : Z E G kc ks n T I L R (pc + 2) (a0 :: a1 :: a2 :: a3 :: a4 :: a5 :: a6 :: a7 :: a8 :: a9 :: a10 :: a11 :: some (.int x) :: tl) st) : Z E G kc ks n T I L R pc (a0 :: a1 :: a2 :: a3 :: a4 :: a5 :: a6 :: a7 :: a8 :: a9 :: a10 :: a11 :: a12 :: tl) (.int x :: st) := z_istoreW g hd (zst_12 hc) k
theorem z_as12 {x : Nat} (g : zGd E G cc own nL d K S) (hd : decode cc pc = .ok (.astore 12, 2)) (hc : zc1 a11 = true) (k : Z E G kc ks n T I L R (pc + 2) (a0 :: a1 :: a2 :: a3 :: a4 :: a5 :: a6 :: a7 :: a8 :: a9 :: a10 :: a11 :: some (.ref x) :: tl) st) : Z E G kc ks n T I L R pc (a0 :: a1 :: a2 :: a3 :: a4 :: a5 :: a6 :: a7 :: a8 :: a9 :: a10 :: a11 :: a12 :: tl) (.ref x :: st) := z_astoreW g hd (zst_12 hc) k
theorem zst2_12 (hc : zc1 a11 = true) {v : Value} : zst2 (a0 :: a1 :: a2 :: a3 :: a4 :: a5 :: a6 :: a7 :: a8 :: a9 :: a10 :: a11 :: a12 :: a13 :: tl) (a0 :: a1 :: a2 :: a3 :: a4 :: a5 :: a6 :: a7 :: a8 :: a9 :: a10 :: a11 :: some v :: none :: tl) 12 v := by
  refine ⟨by simp only [List.length_cons]; omega, by simp only [List.length_cons], fun j w h => ?_⟩
  match j, h with
  | 0, h => exact Or.inr ⟨h, by omega, by omega, fun e => by omega⟩
  | 1, h => exact Or.inr ⟨h, by omega, by omega, fun e => by omega⟩
  | 2, h => exact Or.inr ⟨h, by omega, by omega, fun e => by omega⟩
  | 3, h => exact Or.inr ⟨h, by omega, by omega, fun e => by omega⟩
  | 4, h => exact Or.inr ⟨h, by omega, by omega, fun e => by omega⟩
  | 5, h => exact Or.inr ⟨h, by omega, by omega, fun e => by omega⟩
  | 6, h => exact Or.inr ⟨h, by omega, by omega, fun e => by omega⟩
  | 7, h => exact Or.inr ⟨h, by omega, by omega, fun e => by omega⟩
  | 8, h => exact Or.inr ⟨h, by omega, by omega, fun e => by omega⟩
  | 9, h => exact Or.inr ⟨h, by omega, by omega, fun e => by omega⟩
  | 10, h => exact Or.inr ⟨h, by omega, by omega, fun e => by omega⟩
  | 11, h => exact Or.inr ⟨h, by omega, by omega, fun _ => zc1_ne hc (Option.some.inj h)⟩
  | 12, h => exact Or.inl ⟨rfl, (Option.some.inj (Option.some.inj h)).symm⟩
  | 13, h => exact absurd (Option.some.inj h) (fun z => by cases z)
  | j + 14, h => exact Or.inr ⟨h, by omega, by omega, fun e => by omega⟩
theorem z_ls12 {x : Int64} (g : zGd E G cc own nL d K S) (hd : decode cc pc = .ok (.lstore 12, 2)) (hc : zc1 a11 = true) (k : Z E G kc ks n T I L R (pc + 2) (a0 :: a1 :: a2 :: a3 :: a4 :: a5 :: a6 :: a7 :: a8 :: a9 :: a10 :: a11 :: some (.long x) :: none :: tl) st) : Z E G kc ks n T I L R pc (a0 :: a1 :: a2 :: a3 :: a4 :: a5 :: a6 :: a7 :: a8 :: a9 :: a10 :: a11 :: a12 :: a13 :: tl) (.long x :: st) := z_lstoreW g hd (zst2_12 hc) k
theorem z_inc12 {x v : Int32} {m : Int} (g : zGd E G cc own nL d K S) (hd : decode cc pc = .ok (.iinc 12 m, 3)) (hv : x + Int32.ofInt m = v) (hc : zc1 a11 = true) (k : Z E G kc ks n T I L R (pc + 3) (a0 :: a1 :: a2 :: a3 :: a4 :: a5 :: a6 :: a7 :: a8 :: a9 :: a10 :: a11 :: some (.int v) :: tl) st) : Z E G kc ks n T I L R pc (a0 :: a1 :: a2 :: a3 :: a4 :: a5 :: a6 :: a7 :: a8 :: a9 :: a10 :: a11 :: some (.int x) :: tl) st := z_iincG g hd rfl hv (zst_12 hc) k
theorem z_il13 {x : Int32} (g : zGd E G cc own nL d K S) (hd : decode cc pc = .ok (.iload 13, 2)) (k : Z E G kc ks n T I L R (pc + 2) (a0 :: a1 :: a2 :: a3 :: a4 :: a5 :: a6 :: a7 :: a8 :: a9 :: a10 :: a11 :: a12 :: some (.int x) :: tl) (.int x :: st)) : Z E G kc ks n T I L R pc (a0 :: a1 :: a2 :: a3 :: a4 :: a5 :: a6 :: a7 :: a8 :: a9 :: a10 :: a11 :: a12 :: some (.int x) :: tl) st := z_iloadW g hd rfl k
theorem z_ll13 {x : Int64} (g : zGd E G cc own nL d K S) (hd : decode cc pc = .ok (.lload 13, 2)) (k : Z E G kc ks n T I L R (pc + 2) (a0 :: a1 :: a2 :: a3 :: a4 :: a5 :: a6 :: a7 :: a8 :: a9 :: a10 :: a11 :: a12 :: some (.long x) :: tl) (.long x :: st)) : Z E G kc ks n T I L R pc (a0 :: a1 :: a2 :: a3 :: a4 :: a5 :: a6 :: a7 :: a8 :: a9 :: a10 :: a11 :: a12 :: some (.long x) :: tl) st := z_lloadW g hd rfl k
theorem z_al13 {x : Nat} (g : zGd E G cc own nL d K S) (hd : decode cc pc = .ok (.aload 13, 2)) (k : Z E G kc ks n T I L R (pc + 2) (a0 :: a1 :: a2 :: a3 :: a4 :: a5 :: a6 :: a7 :: a8 :: a9 :: a10 :: a11 :: a12 :: some (.ref x) :: tl) (.ref x :: st)) : Z E G kc ks n T I L R pc (a0 :: a1 :: a2 :: a3 :: a4 :: a5 :: a6 :: a7 :: a8 :: a9 :: a10 :: a11 :: a12 :: some (.ref x) :: tl) st := z_aloadW g hd rfl k
theorem zst_13 (hc : zc1 a12 = true) {v : Value} : zst (a0 :: a1 :: a2 :: a3 :: a4 :: a5 :: a6 :: a7 :: a8 :: a9 :: a10 :: a11 :: a12 :: a13 :: tl) (a0 :: a1 :: a2 :: a3 :: a4 :: a5 :: a6 :: a7 :: a8 :: a9 :: a10 :: a11 :: a12 :: some v :: tl) 13 v := by
  refine ⟨by simp only [List.length_cons]; omega, by simp only [List.length_cons], fun j w h => ?_⟩
  match j, h with
  | 0, h => exact Or.inr ⟨h, by omega, fun e => by omega⟩
  | 1, h => exact Or.inr ⟨h, by omega, fun e => by omega⟩
  | 2, h => exact Or.inr ⟨h, by omega, fun e => by omega⟩
  | 3, h => exact Or.inr ⟨h, by omega, fun e => by omega⟩
  | 4, h => exact Or.inr ⟨h, by omega, fun e => by omega⟩
  | 5, h => exact Or.inr ⟨h, by omega, fun e => by omega⟩
  | 6, h => exact Or.inr ⟨h, by omega, fun e => by omega⟩
  | 7, h => exact Or.inr ⟨h, by omega, fun e => by omega⟩
  | 8, h => exact Or.inr ⟨h, by omega, fun e => by omega⟩
  | 9, h => exact Or.inr ⟨h, by omega, fun e => by omega⟩
  | 10, h => exact Or.inr ⟨h, by omega, fun e => by omega⟩
  | 11, h => exact Or.inr ⟨h, by omega, fun e => by omega⟩
  | 12, h => exact Or.inr ⟨h, by omega, fun _ => zc1_ne hc (Option.some.inj h)⟩
  | 13, h => exact Or.inl ⟨rfl, (Option.some.inj (Option.some.inj h)).symm⟩
  | j + 14, h => exact Or.inr ⟨h, by omega, fun e => by omega⟩
theorem z_is13 {x : Int32} (g : zGd E G cc own nL d K S) (hd : decode cc pc = .ok (.istore 13, 2)) (hc : zc1 a12 = true) (k : Z E G kc ks n T I L R (pc + 2) (a0 :: a1 :: a2 :: a3 :: a4 :: a5 :: a6 :: a7 :: a8 :: a9 :: a10 :: a11 :: a12 :: some (.int x) :: tl) st) : Z E G kc ks n T I L R pc (a0 :: a1 :: a2 :: a3 :: a4 :: a5 :: a6 :: a7 :: a8 :: a9 :: a10 :: a11 :: a12 :: a13 :: tl) (.int x :: st) := z_istoreW g hd (zst_13 hc) k
theorem z_as13 {x : Nat} (g : zGd E G cc own nL d K S) (hd : decode cc pc = .ok (.astore 13, 2)) (hc : zc1 a12 = true) (k : Z E G kc ks n T I L R (pc + 2) (a0 :: a1 :: a2 :: a3 :: a4 :: a5 :: a6 :: a7 :: a8 :: a9 :: a10 :: a11 :: a12 :: some (.ref x) :: tl) st) : Z E G kc ks n T I L R pc (a0 :: a1 :: a2 :: a3 :: a4 :: a5 :: a6 :: a7 :: a8 :: a9 :: a10 :: a11 :: a12 :: a13 :: tl) (.ref x :: st) := z_astoreW g hd (zst_13 hc) k
theorem zst2_13 (hc : zc1 a12 = true) {v : Value} : zst2 (a0 :: a1 :: a2 :: a3 :: a4 :: a5 :: a6 :: a7 :: a8 :: a9 :: a10 :: a11 :: a12 :: a13 :: a14 :: tl) (a0 :: a1 :: a2 :: a3 :: a4 :: a5 :: a6 :: a7 :: a8 :: a9 :: a10 :: a11 :: a12 :: some v :: none :: tl) 13 v := by
  refine ⟨by simp only [List.length_cons]; omega, by simp only [List.length_cons], fun j w h => ?_⟩
  match j, h with
  | 0, h => exact Or.inr ⟨h, by omega, by omega, fun e => by omega⟩
  | 1, h => exact Or.inr ⟨h, by omega, by omega, fun e => by omega⟩
  | 2, h => exact Or.inr ⟨h, by omega, by omega, fun e => by omega⟩
  | 3, h => exact Or.inr ⟨h, by omega, by omega, fun e => by omega⟩
  | 4, h => exact Or.inr ⟨h, by omega, by omega, fun e => by omega⟩
  | 5, h => exact Or.inr ⟨h, by omega, by omega, fun e => by omega⟩
  | 6, h => exact Or.inr ⟨h, by omega, by omega, fun e => by omega⟩
  | 7, h => exact Or.inr ⟨h, by omega, by omega, fun e => by omega⟩
  | 8, h => exact Or.inr ⟨h, by omega, by omega, fun e => by omega⟩
  | 9, h => exact Or.inr ⟨h, by omega, by omega, fun e => by omega⟩
  | 10, h => exact Or.inr ⟨h, by omega, by omega, fun e => by omega⟩
  | 11, h => exact Or.inr ⟨h, by omega, by omega, fun e => by omega⟩
  | 12, h => exact Or.inr ⟨h, by omega, by omega, fun _ => zc1_ne hc (Option.some.inj h)⟩
  | 13, h => exact Or.inl ⟨rfl, (Option.some.inj (Option.some.inj h)).symm⟩
  | 14, h => exact absurd (Option.some.inj h) (fun z => by cases z)
  | j + 15, h => exact Or.inr ⟨h, by omega, by omega, fun e => by omega⟩
theorem z_ls13 {x : Int64} (g : zGd E G cc own nL d K S) (hd : decode cc pc = .ok (.lstore 13, 2)) (hc : zc1 a12 = true) (k : Z E G kc ks n T I L R (pc + 2) (a0 :: a1 :: a2 :: a3 :: a4 :: a5 :: a6 :: a7 :: a8 :: a9 :: a10 :: a11 :: a12 :: some (.long x) :: none :: tl) st) : Z E G kc ks n T I L R pc (a0 :: a1 :: a2 :: a3 :: a4 :: a5 :: a6 :: a7 :: a8 :: a9 :: a10 :: a11 :: a12 :: a13 :: a14 :: tl) (.long x :: st) := z_lstoreW g hd (zst2_13 hc) k
theorem z_inc13 {x v : Int32} {m : Int} (g : zGd E G cc own nL d K S) (hd : decode cc pc = .ok (.iinc 13 m, 3)) (hv : x + Int32.ofInt m = v) (hc : zc1 a12 = true) (k : Z E G kc ks n T I L R (pc + 3) (a0 :: a1 :: a2 :: a3 :: a4 :: a5 :: a6 :: a7 :: a8 :: a9 :: a10 :: a11 :: a12 :: some (.int v) :: tl) st) : Z E G kc ks n T I L R pc (a0 :: a1 :: a2 :: a3 :: a4 :: a5 :: a6 :: a7 :: a8 :: a9 :: a10 :: a11 :: a12 :: some (.int x) :: tl) st := z_iincG g hd rfl hv (zst_13 hc) k
theorem z_il14 {x : Int32} (g : zGd E G cc own nL d K S) (hd : decode cc pc = .ok (.iload 14, 2)) (k : Z E G kc ks n T I L R (pc + 2) (a0 :: a1 :: a2 :: a3 :: a4 :: a5 :: a6 :: a7 :: a8 :: a9 :: a10 :: a11 :: a12 :: a13 :: some (.int x) :: tl) (.int x :: st)) : Z E G kc ks n T I L R pc (a0 :: a1 :: a2 :: a3 :: a4 :: a5 :: a6 :: a7 :: a8 :: a9 :: a10 :: a11 :: a12 :: a13 :: some (.int x) :: tl) st := z_iloadW g hd rfl k
theorem z_ll14 {x : Int64} (g : zGd E G cc own nL d K S) (hd : decode cc pc = .ok (.lload 14, 2)) (k : Z E G kc ks n T I L R (pc + 2) (a0 :: a1 :: a2 :: a3 :: a4 :: a5 :: a6 :: a7 :: a8 :: a9 :: a10 :: a11 :: a12 :: a13 :: some (.long x) :: tl) (.long x :: st)) : Z E G kc ks n T I L R pc (a0 :: a1 :: a2 :: a3 :: a4 :: a5 :: a6 :: a7 :: a8 :: a9 :: a10 :: a11 :: a12 :: a13 :: some (.long x) :: tl) st := z_lloadW g hd rfl k
theorem z_al14 {x : Nat} (g : zGd E G cc own nL d K S) (hd : decode cc pc = .ok (.aload 14, 2)) (k : Z E G kc ks n T I L R (pc + 2) (a0 :: a1 :: a2 :: a3 :: a4 :: a5 :: a6 :: a7 :: a8 :: a9 :: a10 :: a11 :: a12 :: a13 :: some (.ref x) :: tl) (.ref x :: st)) : Z E G kc ks n T I L R pc (a0 :: a1 :: a2 :: a3 :: a4 :: a5 :: a6 :: a7 :: a8 :: a9 :: a10 :: a11 :: a12 :: a13 :: some (.ref x) :: tl) st := z_aloadW g hd rfl k
theorem zst_14 (hc : zc1 a13 = true) {v : Value} : zst (a0 :: a1 :: a2 :: a3 :: a4 :: a5 :: a6 :: a7 :: a8 :: a9 :: a10 :: a11 :: a12 :: a13 :: a14 :: tl) (a0 :: a1 :: a2 :: a3 :: a4 :: a5 :: a6 :: a7 :: a8 :: a9 :: a10 :: a11 :: a12 :: a13 :: some v :: tl) 14 v := by
  refine ⟨by simp only [List.length_cons]; omega, by simp only [List.length_cons], fun j w h => ?_⟩
  match j, h with
  | 0, h => exact Or.inr ⟨h, by omega, fun e => by omega⟩
  | 1, h => exact Or.inr ⟨h, by omega, fun e => by omega⟩
  | 2, h => exact Or.inr ⟨h, by omega, fun e => by omega⟩
  | 3, h => exact Or.inr ⟨h, by omega, fun e => by omega⟩
  | 4, h => exact Or.inr ⟨h, by omega, fun e => by omega⟩
  | 5, h => exact Or.inr ⟨h, by omega, fun e => by omega⟩
  | 6, h => exact Or.inr ⟨h, by omega, fun e => by omega⟩
  | 7, h => exact Or.inr ⟨h, by omega, fun e => by omega⟩
  | 8, h => exact Or.inr ⟨h, by omega, fun e => by omega⟩
  | 9, h => exact Or.inr ⟨h, by omega, fun e => by omega⟩
  | 10, h => exact Or.inr ⟨h, by omega, fun e => by omega⟩
  | 11, h => exact Or.inr ⟨h, by omega, fun e => by omega⟩
  | 12, h => exact Or.inr ⟨h, by omega, fun e => by omega⟩
  | 13, h => exact Or.inr ⟨h, by omega, fun _ => zc1_ne hc (Option.some.inj h)⟩
  | 14, h => exact Or.inl ⟨rfl, (Option.some.inj (Option.some.inj h)).symm⟩
  | j + 15, h => exact Or.inr ⟨h, by omega, fun e => by omega⟩
theorem z_is14 {x : Int32} (g : zGd E G cc own nL d K S) (hd : decode cc pc = .ok (.istore 14, 2)) (hc : zc1 a13 = true) (k : Z E G kc ks n T I L R (pc + 2) (a0 :: a1 :: a2 :: a3 :: a4 :: a5 :: a6 :: a7 :: a8 :: a9 :: a10 :: a11 :: a12 :: a13 :: some (.int x) :: tl) st) : Z E G kc ks n T I L R pc (a0 :: a1 :: a2 :: a3 :: a4 :: a5 :: a6 :: a7 :: a8 :: a9 :: a10 :: a11 :: a12 :: a13 :: a14 :: tl) (.int x :: st) := z_istoreW g hd (zst_14 hc) k
theorem z_as14 {x : Nat} (g : zGd E G cc own nL d K S) (hd : decode cc pc = .ok (.astore 14, 2)) (hc : zc1 a13 = true) (k : Z E G kc ks n T I L R (pc + 2) (a0 :: a1 :: a2 :: a3 :: a4 :: a5 :: a6 :: a7 :: a8 :: a9 :: a10 :: a11 :: a12 :: a13 :: some (.ref x) :: tl) st) : Z E G kc ks n T I L R pc (a0 :: a1 :: a2 :: a3 :: a4 :: a5 :: a6 :: a7 :: a8 :: a9 :: a10 :: a11 :: a12 :: a13 :: a14 :: tl) (.ref x :: st) := z_astoreW g hd (zst_14 hc) k
theorem zst2_14 (hc : zc1 a13 = true) {v : Value} : zst2 (a0 :: a1 :: a2 :: a3 :: a4 :: a5 :: a6 :: a7 :: a8 :: a9 :: a10 :: a11 :: a12 :: a13 :: a14 :: a15 :: tl) (a0 :: a1 :: a2 :: a3 :: a4 :: a5 :: a6 :: a7 :: a8 :: a9 :: a10 :: a11 :: a12 :: a13 :: some v :: none :: tl) 14 v := by
  refine ⟨by simp only [List.length_cons]; omega, by simp only [List.length_cons], fun j w h => ?_⟩
  match j, h with
  | 0, h => exact Or.inr ⟨h, by omega, by omega, fun e => by omega⟩
  | 1, h => exact Or.inr ⟨h, by omega, by omega, fun e => by omega⟩
  | 2, h => exact Or.inr ⟨h, by omega, by omega, fun e => by omega⟩
  | 3, h => exact Or.inr ⟨h, by omega, by omega, fun e => by omega⟩
  | 4, h => exact Or.inr ⟨h, by omega, by omega, fun e => by omega⟩
  | 5, h => exact Or.inr ⟨h, by omega, by omega, fun e => by omega⟩
  | 6, h => exact Or.inr ⟨h, by omega, by omega, fun e => by omega⟩
  | 7, h => exact Or.inr ⟨h, by omega, by omega, fun e => by omega⟩
  | 8, h => exact Or.inr ⟨h, by omega, by omega, fun e => by omega⟩
  | 9, h => exact Or.inr ⟨h, by omega, by omega, fun e => by omega⟩
  | 10, h => exact Or.inr ⟨h, by omega, by omega, fun e => by omega⟩
  | 11, h => exact Or.inr ⟨h, by omega, by omega, fun e => by omega⟩
  | 12, h => exact Or.inr ⟨h, by omega, by omega, fun e => by omega⟩
  | 13, h => exact Or.inr ⟨h, by omega, by omega, fun _ => zc1_ne hc (Option.some.inj h)⟩
  | 14, h => exact Or.inl ⟨rfl, (Option.some.inj (Option.some.inj h)).symm⟩
  | 15, h => exact absurd (Option.some.inj h) (fun z => by cases z)
  | j + 16, h => exact Or.inr ⟨h, by omega, by omega, fun e => by omega⟩
theorem z_ls14 {x : Int64} (g : zGd E G cc own nL d K S) (hd : decode cc pc = .ok (.lstore 14, 2)) (hc : zc1 a13 = true) (k : Z E G kc ks n T I L R (pc + 2) (a0 :: a1 :: a2 :: a3 :: a4 :: a5 :: a6 :: a7 :: a8 :: a9 :: a10 :: a11 :: a12 :: a13 :: some (.long x) :: none :: tl) st) : Z E G kc ks n T I L R pc (a0 :: a1 :: a2 :: a3 :: a4 :: a5 :: a6 :: a7 :: a8 :: a9 :: a10 :: a11 :: a12 :: a13 :: a14 :: a15 :: tl) (.long x :: st) := z_lstoreW g hd (zst2_14 hc) k
theorem z_inc14 {x v : Int32} {m : Int} (g : zGd E G cc own nL d K S) (hd : decode cc pc = .ok (.iinc 14 m, 3)) (hv : x + Int32.ofInt m = v) (hc : zc1 a13 = true) (k : Z E G kc ks n T I L R (pc + 3) (a0 :: a1 :: a2 :: a3 :: a4 :: a5 :: a6 :: a7 :: a8 :: a9 :: a10 :: a11 :: a12 :: a13 :: some (.int v) :: tl) st) : Z E G kc ks n T I L R pc (a0 :: a1 :: a2 :: a3 :: a4 :: a5 :: a6 :: a7 :: a8 :: a9 :: a10 :: a11 :: a12 :: a13 :: some (.int x) :: tl) st := z_iincG g hd rfl hv (zst_14 hc) k
theorem z_il15 {x : Int32} (g : zGd E G cc own nL d K S) (hd : decode cc pc = .ok (.iload 15, 2)) (k : Z E G kc ks n T I L R (pc + 2) (a0 :: a1 :: a2 :: a3 :: a4 :: a5 :: a6 :: a7 :: a8 :: a9 :: a10 :: a11 :: a12 :: a13 :: a14 :: some (.int x) :: tl) (.int x :: st)) : Z E G kc ks n T I L R pc (a0 :: a1 :: a2 :: a3 :: a4 :: a5 :: a6 :: a7 :: a8 :: a9 :: a10 :: a11 :: a12 :: a13 :: a14 :: some (.int x) :: tl) st := z_iloadW g hd rfl k
theorem z_ll15 {x : Int64} (g : zGd E G cc own nL d K S) (hd : decode cc pc = .ok (.lload 15, 2)) (k : Z E G kc ks n T I L R (pc + 2) (a0 :: a1 :: a2 :: a3 :: a4 :: a5 :: a6 :: a7 :: a8 :: a9 :: a10 :: a11 :: a12 :: a13 :: a14 :: some (.long x) :: tl) (.long x :: st)) : Z E G kc ks n T I L R pc (a0 :: a1 :: a2 :: a3 :: a4 :: a5 :: a6 :: a7 :: a8 :: a9 :: a10 :: a11 :: a12 :: a13 :: a14 :: some (.long x) :: tl) st := z_lloadW g hd rfl k
theorem z_al15 {x : Nat} (g : zGd E G cc own nL d K S) (hd : decode cc pc = .ok (.aload 15, 2)) (k : Z E G kc ks n T I L R (pc + 2) (a0 :: a1 :: a2 :: a3 :: a4 :: a5 :: a6 :: a7 :: a8 :: a9 :: a10 :: a11 :: a12 :: a13 :: a14 :: some (.ref x) :: tl) (.ref x :: st)) : Z E G kc ks n T I L R pc (a0 :: a1 :: a2 :: a3 :: a4 :: a5 :: a6 :: a7 :: a8 :: a9 :: a10 :: a11 :: a12 :: a13 :: a14 :: some (.ref x) :: tl) st := z_aloadW g hd rfl k
theorem zst_15 (hc : zc1 a14 = true) {v : Value} : zst (a0 :: a1 :: a2 :: a3 :: a4 :: a5 :: a6 :: a7 :: a8 :: a9 :: a10 :: a11 :: a12 :: a13 :: a14 :: a15 :: tl) (a0 :: a1 :: a2 :: a3 :: a4 :: a5 :: a6 :: a7 :: a8 :: a9 :: a10 :: a11 :: a12 :: a13 :: a14 :: some v :: tl) 15 v := by
  refine ⟨by simp only [List.length_cons]; omega, by simp only [List.length_cons], fun j w h => ?_⟩
  match j, h with
  | 0, h => exact Or.inr ⟨h, by omega, fun e => by omega⟩
  | 1, h => exact Or.inr ⟨h, by omega, fun e => by omega⟩
  | 2, h => exact Or.inr ⟨h, by omega, fun e => by omega⟩
  | 3, h => exact Or.inr ⟨h, by omega, fun e => by omega⟩
  | 4, h => exact Or.inr ⟨h, by omega, fun e => by omega⟩
  | 5, h => exact Or.inr ⟨h, by omega, fun e => by omega⟩
  | 6, h => exact Or.inr ⟨h, by omega, fun e => by omega⟩
  | 7, h => exact Or.inr ⟨h, by omega, fun e => by omega⟩
  | 8, h => exact Or.inr ⟨h, by omega, fun e => by omega⟩
  | 9, h => exact Or.inr ⟨h, by omega, fun e => by omega⟩
  | 10, h => exact Or.inr ⟨h, by omega, fun e => by omega⟩
  | 11, h => exact Or.inr ⟨h, by omega, fun e => by omega⟩
  | 12, h => exact Or.inr ⟨h, by omega, fun e => by omega⟩
  | 13, h => exact Or.inr ⟨h, by omega, fun e => by omega⟩
  | 14, h => exact Or.inr ⟨h, by omega, fun _ => zc1_ne hc (Option.some.inj h)⟩
  | 15, h => exact Or.inl ⟨rfl, (Option.some.inj (Option.some.inj h)).symm⟩
  | j + 16, h => exact Or.inr ⟨h, by omega, fun e => by omega⟩
theorem z_is15 {x : Int32} (g : zGd E G cc own nL d K S) (hd : decode cc pc = .ok (.istore 15, 2)) (hc : zc1 a14 = true) (k : Z E G kc ks n T I L R (pc + 2) (a0 :: a1 :: a2 :: a3 :: a4 :: a5 :: a6 :: a7 :: a8 :: a9 :: a10 :: a11 :: a12 :: a13 :: a14 :: some (.int x) :: tl) st) : Z E G kc ks n T I L R pc (a0 :: a1 :: a2 :: a3 :: a4 :: a5 :: a6 :: a7 :: a8 :: a9 :: a10 :: a11 :: a12 :: a13 :: a14 :: a15 :: tl) (.int x :: st) := z_istoreW g hd (zst_15 hc) k
theorem z_as15 {x : Nat} (g : zGd E G cc own nL d K S) (hd : decode cc pc = .ok (.astore 15, 2)) (hc : zc1 a14 = true) (k : Z E G kc ks n T I L R (pc + 2) (a0 :: a1 :: a2 :: a3 :: a4 :: a5 :: a6 :: a7 :: a8 :: a9 :: a10 :: a11 :: a12 :: a13 :: a14 :: some (.ref x) :: tl) st) : Z E G kc ks n T I L R pc (a0 :: a1 :: a2 :: a3 :: a4 :: a5 :: a6 :: a7 :: a8 :: a9 :: a10 :: a11 :: a12 :: a13 :: a14 :: a15 :: tl) (.ref x :: st) := z_astoreW g hd (zst_15 hc) k
theorem zst2_15 (hc : zc1 a14 = true) {v : Value} : zst2 (a0 :: a1 :: a2 :: a3 :: a4 :: a5 :: a6 :: a7 :: a8 :: a9 :: a10 :: a11 :: a12 :: a13 :: a14 :: a15 :: a16 :: tl) (a0 :: a1 :: a2 :: a3 :: a4 :: a5 :: a6 :: a7 :: a8 :: a9 :: a10 :: a11 :: a12 :: a13 :: a14 :: some v :: none :: tl) 15 v := by
  refine ⟨by simp only [List.length_cons]; omega, by simp only [List.length_cons], fun j w h => ?_⟩
  match j, h with
  | 0, h => exact Or.inr ⟨h, by omega, by omega, fun e => by omega⟩
  | 1, h => exact Or.inr ⟨h, by omega, by omega, fun e => by omega⟩
  | 2, h => exact Or.inr ⟨h, by omega, by omega, fun e => by omega⟩
  | 3, h => exact Or.inr ⟨h, by omega, by omega, fun e => by omega⟩
  | 4, h => exact Or.inr ⟨h, by omega, by omega, fun e => by omega⟩
  | 5, h => exact Or.inr ⟨h, by omega, by omega, fun e => by omega⟩
  | 6, h => exact Or.inr ⟨h, by omega, by omega, fun e => by omega⟩
  | 7, h => exact Or.inr ⟨h, by omega, by omega, fun e => by omega⟩
  | 8, h => exact Or.inr ⟨h, by omega, by omega, fun e => by omega⟩
  | 9, h => exact Or.inr ⟨h, by omega, by omega, fun e => by omega⟩
  | 10, h => exact Or.inr ⟨h, by omega, by omega, fun e => by omega⟩
  | 11, h => exact Or.inr ⟨h, by omega, by omega, fun e => by omega⟩
  | 12, h => exact Or.inr ⟨h, by omega, by omega, fun e => by omega⟩
  | 13, h => exact Or.inr ⟨h, by omega, by omega, fun e => by omega⟩
  | 14, h => exact Or.inr ⟨h, by omega, by omega, fun _ => zc1_ne hc (Option.some.inj h)⟩
  | 15, h => exact Or.inl ⟨rfl, (Option.some.inj (Option.some.inj h)).symm⟩
  | 16, h => exact absurd (Option.some.inj h) (fun z => by cases z)
  | j + 17, h => exact Or.inr ⟨h, by omega, by omega, fun e => by omega⟩
theorem z_ls15 {x : Int64} (g : zGd E G cc own nL d K S) (hd : decode cc pc = .ok (.lstore 15, 2)) (hc : zc1 a14 = true) (k : Z E G kc ks n T I L R (pc + 2) (a0 :: a1 :: a2 :: a3 :: a4 :: a5 :: a6 :: a7 :: a8 :: a9 :: a10 :: a11 :: a12 :: a13 :: a14 :: some (.long x) :: none :: tl) st) : Z E G kc ks n T I L R pc (a0 :: a1 :: a2 :: a3 :: a4 :: a5 :: a6 :: a7 :: a8 :: a9 :: a10 :: a11 :: a12 :: a13 :: a14 :: a15 :: a16 :: tl) (.long x :: st) := z_lstoreW g hd (zst2_15 hc) k
theorem z_inc15 {x v : Int32} {m : Int} (g : zGd E G cc own nL d K S) (hd : decode cc pc = .ok (.iinc 15 m, 3)) (hv : x + Int32.ofInt m = v) (hc : zc1 a14 = true) (k : Z E G kc ks n T I L R (pc + 3) (a0 :: a1 :: a2 :: a3 :: a4 :: a5 :: a6 :: a7 :: a8 :: a9 :: a10 :: a11 :: a12 :: a13 :: a14 :: some (.int v) :: tl) st) : Z E G kc ks n T I L R pc (a0 :: a1 :: a2 :: a3 :: a4 :: a5 :: a6 :: a7 :: a8 :: a9 :: a10 :: a11 :: a12 :: a13 :: a14 :: some (.int x) :: tl) st := z_iincG g hd rfl hv (zst_15 hc) k
theorem z_il16 {x : Int32} (g : zGd E G cc own nL d K S) (hd : decode cc pc = .ok (.iload 16, 2)) (k : Z E G kc ks n T I L R (pc + 2) (a0 :: a1 :: a2 :: a3 :: a4 :: a5 :: a6 :: a7 :: a8 :: a9 :: a10 :: a11 :: a12 :: a13 :: a14 :: a15 :: some (.int x) :: tl) (.int x :: st)) : Z E G kc ks n T I L R pc (a0 :: a1 :: a2 :: a3 :: a4 :: a5 :: a6 :: a7 :: a8 :: a9 :: a10 :: a11 :: a12 :: a13 :: a14 :: a15 :: some (.int x) :: tl) st := z_iloadW g hd rfl k
theorem z_ll16 {x : Int64} (g : zGd E G cc own nL d K S) (hd : decode cc pc = .ok (.lload 16, 2)) (k : Z E G kc ks n T I L R (pc + 2) (a0 :: a1 :: a2 :: a3 :: a4 :: a5 :: a6 :: a7 :: a8 :: a9 :: a10 :: a11 :: a12 :: a13 :: a14 :: a15 :: some (.long x) :: tl) (.long x :: st)) : Z E G kc ks n T I L R pc (a0 :: a1 :: a2 :: a3 :: a4 :: a5 :: a6 :: a7 :: a8 :: a9 :: a10 :: a11 :: a12 :: a13 :: a14 :: a15 :: some (.long x) :: tl) st := z_lloadW g hd rfl k
theorem z_al16 {x : Nat} (g : zGd E G cc own nL d K S) (hd : decode cc pc = .ok (.aload 16, 2)) (k : Z E G kc ks n T I L R (pc + 2) (a0 :: a1 :: a2 :: a3 :: a4 :: a5 :: a6 :: a7 :: a8 :: a9 :: a10 :: a11 :: a12 :: a13 :: a14 :: a15 :: some (.ref x) :: tl) (.ref x :: st)) : Z E G kc ks n T I L R pc (a0 :: a1 :: a2 :: a3 :: a4 :: a5 :: a6 :: a7 :: a8 :: a9 :: a10 :: a11 :: a12 :: a13 :: a14 :: a15 :: some (.ref x) :: tl) st := z_aloadW g hd rfl k
theorem zst_16 (hc : zc1 a15 = true) {v : Value} : zst (a0 :: a1 :: a2 :: a3 :: a4 :: a5 :: a6 :: a7 :: a8 :: a9 :: a10 :: a11 :: a12 :: a13 :: a14 :: a15 :: a16 :: tl) (a0 :: a1 :: a2 :: a3 :: a4 :: a5 :: a6 :: a7 :: a8 :: a9 :: a10 :: a11 :: a12 :: a13 :: a14 :: a15 :: some v :: tl) 16 v := by
  refine ⟨by simp only [List.length_cons]; omega, by simp only [List.length_cons], fun j w h => ?_⟩
  match j, h with
  | 0, h => exact Or.inr ⟨h, by omega, fun e => by omega⟩
  | 1, h => exact Or.inr ⟨h, by omega, fun e => by omega⟩
  | 2, h => exact Or.inr ⟨h, by omega, fun e => by omega⟩
  | 3, h => exact Or.inr ⟨h, by omega, fun e => by omega⟩
  | 4, h => exact Or.inr ⟨h, by omega, fun e => by omega⟩
  | 5, h => exact Or.inr ⟨h, by omega, fun e => by omega⟩
  | 6, h => exact Or.inr ⟨h, by omega, fun e => by omega⟩
  | 7, h => exact Or.inr ⟨h, by omega, fun e => by omega⟩
  | 8, h => exact Or.inr ⟨h, by omega, fun e => by omega⟩
  | 9, h => exact Or.inr ⟨h, by omega, fun e => by omega⟩
  | 10, h => exact Or.inr ⟨h, by omega, fun e => by omega⟩
  | 11, h => exact Or.inr ⟨h, by omega, fun e => by omega⟩
  | 12, h => exact Or.inr ⟨h, by omega, fun e => by omega⟩
  | 13, h => exact Or.inr ⟨h, by omega, fun e => by omega⟩
  | 14, h => exact Or.inr ⟨h, by omega, fun e => by omega⟩
  | 15, h => exact Or.inr ⟨h, by omega, fun _ => zc1_ne hc (Option.some.inj h)⟩
  | 16, h => exact Or.inl ⟨rfl, (Option.some.inj (Option.some.inj h)).symm⟩
  | j + 17, h => exact Or.inr ⟨h, by omega, fun e => by omega⟩
theorem z_is16 {x : Int32} (g : zGd E G cc own nL d K S) (hd : decode cc pc = .ok (.istore 16, 2)) (hc : zc1 a15 = true) (k : Z E G kc ks n T I L R (pc + 2) (a0 :: a1 :: a2 :: a3 :: a4 :: a5 :: a6 :: a7 :: a8 :: a9 :: a10 :: a11 :: a12 :: a13 :: a14 :: a15 :: some (.int x) :: tl) st) : Z E G kc ks n T I L R pc (a0 :: a1 :: a2 :: a3 :: a4 :: a5 :: a6 :: a7 :: a8 :: a9 :: a10 :: a11 :: a12 :: a13 :: a14 :: a15 :: a16 :: tl) (.int x :: st) := z_istoreW g hd (zst_16 hc) k
theorem z_as16 {x : Nat} (g : zGd E G cc own nL d K S) (hd : decode cc pc = .ok (.astore 16, 2)) (hc : zc1 a15 = true) (k : Z E G kc ks n T I L R (pc + 2) (a0 :: a1 :: a2 :: a3 :: a4 :: a5 :: a6 :: a7 :: a8 :: a9 :: a10 :: a11 :: a12 :: a13 :: a14 :: a15 :: some (.ref x) :: tl) st) : Z E G kc ks n T I L R pc (a0 :: a1 :: a2 :: a3 :: a4 :: a5 :: a6 :: a7 :: a8 :: a9 :: a10 :: a11 :: a12 :: a13 :: a14 :: a15 :: a16 :: tl) (.ref x :: st) := z_astoreW g hd (zst_16 hc) k
theorem zst2_16 (hc : zc1 a15 = true) {v : Value} : zst2 (a0 :: a1 :: a2 :: a3 :: a4 :: a5 :: a6 :: a7 :: a8 :: a9 :: a10 :: a11 :: a12 :: a13 :: a14 :: a15 :: a16 :: a17 :: tl) (a0 :: a1 :: a2 :: a3 :: a4 :: a5 :: a6 :: a7 :: a8 :: a9 :: a10 :: a11 :: a12 :: a13 :: a14 :: a15 :: some v :: none :: tl) 16 v := by
  refine ⟨by simp only [List.length_cons]; omega, by simp only [List.length_cons], fun j w h => ?_⟩
  match j, h with
  | 0, h => exact Or.inr ⟨h, by omega, by omega, fun e => by omega⟩
  | 1, h => exact Or.inr ⟨h, by omega, by omega, fun e => by omega⟩
  | 2, h => exact Or.inr ⟨h, by omega, by omega, fun e => by omega⟩
  | 3, h => exact Or.inr ⟨h, by omega, by omega, fun e => by omega⟩
  | 4, h => exact Or.inr ⟨h, by omega, by omega, fun e => by omega⟩
  | 5, h => exact Or.inr ⟨h, by omega, by omega, fun e => by omega⟩
  | 6, h => exact Or.inr ⟨h, by omega, by omega, fun e => by omega⟩
  | 7, h => exact Or.inr ⟨h, by omega, by omega, fun e => by omega⟩
  | 8, h => exact Or.inr ⟨h, by omega, by omega, fun e => by omega⟩
  | 9, h => exact Or.inr ⟨h, by omega, by omega, fun e => by omega⟩
  | 10, h => exact Or.inr ⟨h, by omega, by omega, fun e => by omega⟩
  | 11, h => exact Or.inr ⟨h, by omega, by omega, fun e => by omega⟩
  | 12, h => exact Or.inr ⟨h, by omega, by omega, fun e => by omega⟩
  | 13, h => exact Or.inr ⟨h, by omega, by omega, fun e => by omega⟩
  | 14, h => exact Or.inr ⟨h, by omega, by omega, fun e => by omega⟩
  | 15, h => exact Or.inr ⟨h, by omega, by omega, fun _ => zc1_ne hc (Option.some.inj h)⟩
  | 16, h => exact Or.inl ⟨rfl, (Option.some.inj (Option.some.inj h)).symm⟩
  | 17, h => exact absurd (Option.some.inj h) (fun z => by cases z)
  | j + 18, h => exact Or.inr ⟨h, by omega, by omega, fun e => by omega⟩
theorem z_ls16 {x : Int64} (g : zGd E G cc own nL d K S) (hd : decode cc pc = .ok (.lstore 16, 2)) (hc : zc1 a15 = true) (k : Z E G kc ks n T I L R (pc + 2) (a0 :: a1 :: a2 :: a3 :: a4 :: a5 :: a6 :: a7 :: a8 :: a9 :: a10 :: a11 :: a12 :: a13 :: a14 :: a15 :: some (.long x) :: none :: tl) st) : Z E G kc ks n T I L R pc (a0 :: a1 :: a2 :: a3 :: a4 :: a5 :: a6 :: a7 :: a8 :: a9 :: a10 :: a11 :: a12 :: a13 :: a14 :: a15 :: a16 :: a17 :: tl) (.long x :: st) := z_lstoreW g hd (zst2_16 hc) k
theorem z_inc16 {x v : Int32} {m : Int} (g : zGd E G cc own nL d K S) (hd : decode cc pc = .ok (.iinc 16 m, 3)) (hv : x + Int32.ofInt m = v) (hc : zc1 a15 = true) (k : Z E G kc ks n T I L R (pc + 3) (a0 :: a1 :: a2 :: a3 :: a4 :: a5 :: a6 :: a7 :: a8 :: a9 :: a10 :: a11 :: a12 :: a13 :: a14 :: a15 :: some (.int v) :: tl) st) : Z E G kc ks n T I L R pc (a0 :: a1 :: a2 :: a3 :: a4 :: a5 :: a6 :: a7 :: a8 :: a9 :: a10 :: a11 :: a12 :: a13 :: a14 :: a15 :: some (.int x) :: tl) st := z_iincG g hd rfl hv (zst_16 hc) k
theorem z_il17 {x : Int32} (g : zGd E G cc own nL d K S) (hd : decode cc pc = .ok (.iload 17, 2)) (k : Z E G kc ks n T I L R (pc + 2) (a0 :: a1 :: a2 :: a3 :: a4 :: a5 :: a6 :: a7 :: a8 :: a9 :: a10 :: a11 :: a12 :: a13 :: a14 :: a15 :: a16 :: some (.int x) :: tl) (.int x :: st)) : Z E G kc ks n T I L R pc (a0 :: a1 :: a2 :: a3 :: a4 :: a5 :: a6 :: a7 :: a8 :: a9 :: a10 :: a11 :: a12 :: a13 :: a14 :: a15 :: a16 :: some (.int x) :: tl) st := z_iloadW g hd rfl k
theorem z_ll17 {x : Int64} (g : zGd E G cc own nL d K S) (hd : decode cc pc = .ok (.lload 17, 2)) (k : Z E G kc ks n T I L R (pc + 2) (a0 :: a1 :: a2 :: a3 :: a4 :: a5 :: a6 :: a7 :: a8 :: a9 :: a10 :: a11 :: a12 :: a13 :: a14 :: a15 :: a16 :: some (.long x) :: tl) (.long x :: st)) : Z E G kc ks n T I L R pc (a0 :: a1 :: a2 :: a3 :: a4 :: a5 :: a6 :: a7 :: a8 :: a9 :: a10 :: a11 :: a12 :: a13 :: a14 :: a15 :: a16 :: some (.long x) :: tl) st := z_lloadW g hd rfl k
theorem z_al17 {x : Nat} (g : zGd E G cc own nL d K S) (hd : decode cc pc = .ok (.aload 17, 2)) (k : Z E G kc ks n T I L R (pc + 2) (a0 :: a1 :: a2 :: a3 :: a4 :: a5 :: a6 :: a7 :: a8 :: a9 :: a10 :: a11 :: a12 :: a13 :: a14 :: a15 :: a16 :: some (.ref x) :: tl) (.ref x :: st)) : Z E G kc ks n T I L R pc (a0 :: a1 :: a2 :: a3 :: a4 :: a5 :: a6 :: a7 :: a8 :: a9 :: a10 :: a11 :: a12 :: a13 :: a14 :: a15 :: a16 :: some (.ref x) :: tl) st := z_aloadW g hd rfl k
theorem zst_17 (hc : zc1 a16 = true) {v : Value} : zst (a0 :: a1 :: a2 :: a3 :: a4 :: a5 :: a6 :: a7 :: a8 :: a9 :: a10 :: a11 :: a12 :: a13 :: a14 :: a15 :: a16 :: a17 :: tl) (a0 :: a1 :: a2 :: a3 :: a4 :: a5 :: a6 :: a7 :: a8 :: a9 :: a10 :: a11 :: a12 :: a13 :: a14 :: a15 :: a16 :: some v :: tl) 17 v := by
  refine ⟨by simp only [List.length_cons]; omega, by simp only [List.length_cons], fun j w h => ?_⟩
  match j, h with
  | 0, h => exact Or.inr ⟨h, by omega, fun e => by omega⟩
  | 1, h => exact Or.inr ⟨h, by omega, fun e => by omega⟩
  | 2, h => exact Or.inr ⟨h, by omega, fun e => by omega⟩
  | 3, h => exact Or.inr ⟨h, by omega, fun e => by omega⟩
  | 4, h => exact Or.inr ⟨h, by omega, fun e => by omega⟩
  | 5, h => exact Or.inr ⟨h, by omega, fun e => by omega⟩
  | 6, h => exact Or.inr ⟨h, by omega, fun e => by omega⟩
  | 7, h => exact Or.inr ⟨h, by omega, fun e => by omega⟩
  | 8, h => exact Or.inr ⟨h, by omega, fun e => by omega⟩
  | 9, h => exact Or.inr ⟨h, by omega, fun e => by omega⟩
  | 10, h => exact Or.inr ⟨h, by omega, fun e => by omega⟩
  | 11, h => exact Or.inr ⟨h, by omega, fun e => by omega⟩
  | 12, h => exact Or.inr ⟨h, by omega, fun e => by omega⟩
  | 13, h => exact Or.inr ⟨h, by omega, fun e => by omega⟩
  | 14, h => exact Or.inr ⟨h, by omega, fun e => by omega⟩
  | 15, h => exact Or.inr ⟨h, by omega, fun e => by omega⟩
  | 16, h => exact Or.inr ⟨h, by omega, fun _ => zc1_ne hc (Option.some.inj h)⟩
  | 17, h => exact Or.inl ⟨rfl, (Option.some.inj (Option.some.inj h)).symm⟩
  | j + 18, h => exact Or.inr ⟨h, by omega, fun e => by omega⟩
theorem z_is17 {x : Int32} (g : zGd E G cc own nL d K S) (hd : decode cc pc = .ok (.istore 17, 2)) (hc : zc1 a16 = true) (k : Z E G kc ks n T I L R (pc + 2) (a0 :: a1 :: a2 :: a3 :: a4 :: a5 :: a6 :: a7 :: a8 :: a9 :: a10 :: a11 :: a12 :: a13 :: a14 :: a15 :: a16 :: some (.int x) :: tl) st) : Z E G kc ks n T I L R pc (a0 :: a1 :: a2 :: a3 :: a4 :: a5 :: a6 :: a7 :: a8 :: a9 :: a10 :: a11 :: a12 :: a13 :: a14 :: a15 :: a16 :: a17 :: tl) (.int x :: st) := z_istoreW g hd (zst_17 hc) k
theorem z_as17 {x : Nat} (g : zGd E G cc own nL d K S) (hd : decode cc pc = .ok (.astore 17, 2)) (hc : zc1 a16 = true) (k : Z E G kc ks n T I L R (pc + 2) (a0 :: a1 :: a2 :: a3 :: a4 :: a5 :: a6 :: a7 :: a8 :: a9 :: a10 :: a11 :: a12 :: a13 :: a14 :: a15 :: a16 :: some (.ref x) :: tl) st) : Z E G kc ks n T I L R pc (a0 :: a1 :: a2 :: a3 :: a4 :: a5 :: a6 :: a7 :: a8 :: a9 :: a10 :: a11 :: a12 :: a13 :: a14 :: a15 :: a16 :: a17 :: tl) (.ref x :: st) := z_astoreW g hd (zst_17 hc) k
theorem zst2_17 (hc : zc1 a16 = true) {v : Value} : zst2 (a0 :: a1 :: a2 :: a3 :: a4 :: a5 :: a6 :: a7 :: a8 :: a9 :: a10 :: a11 :: a12 :: a13 :: a14 :: a15 :: a16 :: a17 :: a18 :: tl) (a0 :: a1 :: a2 :: a3 :: a4 :: a5 :: a6 :: a7 :: a8 :: a9 :: a10 :: a11 :: a12 :: a13 :: a14 :: a15 :: a16 :: some v :: none :: tl) 17 v := by
  refine ⟨by simp only [List.length_cons]; omega, by simp only [List.length_cons], fun j w h => ?_⟩
  match j, h with
  | 0, h => exact Or.inr ⟨h, by omega, by omega, fun e => by omega⟩
  | 1, h => exact Or.inr ⟨h, by omega, by omega, fun e => by omega⟩
  | 2, h => exact Or.inr ⟨h, by omega, by omega, fun e => by omega⟩
  | 3, h => exact Or.inr ⟨h, by omega, by omega, fun e => by omega⟩
  | 4, h => exact Or.inr ⟨h, by omega, by omega, fun e => by omega⟩
  | 5, h => exact Or.inr ⟨h, by omega, by omega, fun e => by omega⟩
  | 6, h => exact Or.inr ⟨h, by omega, by omega, fun e => by omega⟩
  | 7, h => exact Or.inr ⟨h, by omega, by omega, fun e => by omega⟩
  | 8, h => exact Or.inr ⟨h, by omega, by omega, fun e => by omega⟩
  | 9, h => exact Or.inr ⟨h, by omega, by omega, fun e => by omega⟩
  | 10, h => exact Or.inr ⟨h, by omega, by omega, fun e => by omega⟩
  | 11, h => exact Or.inr ⟨h, by omega, by omega, fun e => by omega⟩
  | 12, h => exact Or.inr ⟨h, by omega, by omega, fun e => by omega⟩
  | 13, h => exact Or.inr ⟨h, by omega, by omega, fun e => by omega⟩
  | 14, h => exact Or.inr ⟨h, by omega, by omega, fun e => by omega⟩
  | 15, h => exact Or.inr ⟨h, by omega, by omega, fun e => by omega⟩
  | 16, h => exact Or.inr ⟨h, by omega, by omega, fun _ => zc1_ne hc (Option.some.inj h)⟩
  | 17, h => exact Or.inl ⟨rfl, (Option.some.inj (Option.some.inj h)).symm⟩
  | 18, h => exact absurd (Option.some.inj h) (fun z => by cases z)
  | j + 19, h => exact Or.inr ⟨h, by omega, by omega, fun e => by omega⟩
theorem z_ls17 {x : Int64} (g : zGd E G cc own nL d K S) (hd : decode cc pc = .ok (.lstore 17, 2)) (hc : zc1 a16 = true) (k : Z E G kc ks n T I L R (pc + 2) (a0 :: a1 :: a2 :: a3 :: a4 :: a5 :: a6 :: a7 :: a8 :: a9 :: a10 :: a11 :: a12 :: a13 :: a14 :: a15 :: a16 :: some (.long x) :: none :: tl) st) : Z E G kc ks n T I L R pc (a0 :: a1 :: a2 :: a3 :: a4 :: a5 :: a6 :: a7 :: a8 :: a9 :: a10 :: a11 :: a12 :: a13 :: a14 :: a15 :: a16 :: a17 :: a18 :: tl) (.long x :: st) := z_lstoreW g hd (zst2_17 hc) k
theorem z_inc17 {x v : Int32} {m : Int} (g : zGd E G cc own nL d K S) (hd : decode cc pc = .ok (.iinc 17 m, 3)) (hv : x + Int32.ofInt m = v) (hc : zc1 a16 = true) (k : Z E G kc ks n T I L R (pc + 3) (a0 :: a1 :: a2 :: a3 :: a4 :: a5 :: a6 :: a7 :: a8 :: a9 :: a10 :: a11 :: a12 :: a13 :: a14 :: a15 :: a16 :: some (.int v) :: tl) st) : Z E G kc ks n T I L R pc (a0 :: a1 :: a2 :: a3 :: a4 :: a5 :: a6 :: a7 :: a8 :: a9 :: a10 :: a11 :: a12 :: a13 :: a14 :: a15 :: a16 :: some (.int x) :: tl) st := z_iincG g hd rfl hv (zst_17 hc) k
theorem z_il18 {x : Int32} (g : zGd E G cc own nL d K S) (hd : decode cc pc = .ok (.iload 18, 2)) (k : Z E G kc ks n T I L R (pc + 2) (a0 :: a1 :: a2 :: a3 :: a4 :: a5 :: a6 :: a7 :: a8 :: a9 :: a10 :: a11 :: a12 :: a13 :: a14 :: a15 :: a16 :: a17 :: some (.int x) :: tl) (.int x :: st)) : Z E G kc ks n T I L R pc (a0 :: a1 :: a2 :: a3 :: a4 :: a5 :: a6 :: a7 :: a8 :: a9 :: a10 :: a11 :: a12 :: a13 :: a14 :: a15 :: a16 :: a17 :: some (.int x) :: tl) st := z_iloadW g hd rfl k
theorem z_ll18 {x : Int64} (g : zGd E G cc own nL d K S) (hd : decode cc pc = .ok (.lload 18, 2)) (k : Z E G kc ks n T I L R (pc + 2) (a0 :: a1 :: a2 :: a3 :: a4 :: a5 :: a6 :: a7 :: a8 :: a9 :: a10 :: a11 :: a12 :: a13 :: a14 :: a15 :: a16 :: a17 :: some (.long x) :: tl) (.long x :: st)) : Z E G kc ks n T I L R pc (a0 :: a1 :: a2 :: a3 :: a4 :: a5 :: a6 :: a7 :: a8 :: a9 :: a10 :: a11 :: a12 :: a13 :: a14 :: a15 :: a16 :: a17 :: some (.long x) :: tl) st := z_lloadW g hd rfl k
theorem z_al18 {x : Nat} (g : zGd E G cc own nL d K S) (hd : decode cc pc = .ok (.aload 18, 2)) (k : Z E G kc ks n T I L R (pc + 2) (a0 :: a1 :: a2 :: a3 :: a4 :: a5 :: a6 :: a7 :: a8 :: a9 :: a10 :: a11 :: a12 :: a13 :: a14 :: a15 :: a16 :: a17 :: some (.ref x) :: tl) (.ref x :: st)) : Z E G kc ks n T I L R pc (a0 :: a1 :: a2 :: a3 :: a4 :: a5 :: a6 :: a7 :: a8 :: a9 :: a10 :: a11 :: a12 :: a13 :: a14 :: a15 :: a16 :: a17 :: some (.ref x) :: tl) st := z_aloadW g hd rfl k
theorem zst_18 (hc : zc1 a17 = true) {v : Value} : zst (a0 :: a1 :: a2 :: a3 :: a4 :: a5 :: a6 :: a7 :: a8 :: a9 :: a10 :: a11 :: a12 :: a13 :: a14 :: a15 :: a16 :: a17 :: a18 :: tl) (a0 :: a1 :: a2 :: a3 :: a4 :: a5 :: a6 :: a7 :: a8 :: a9 :: a10 :: a11 :: a12 :: a13 :: a14 :: a15 :: a16 :: a17 :: some v :: tl) 18 v := by
  refine ⟨by simp only [List.length_cons]; omega, by simp only [List.length_cons], fun j w h => ?_⟩
  match j, h with
  | 0, h => exact Or.inr ⟨h, by omega, fun e => by omega⟩
  | 1, h => exact Or.inr ⟨h, by omega, fun e => by omega⟩
  | 2, h => exact Or.inr ⟨h, by omega, fun e => by omega⟩
  | 3, h => exact Or.inr ⟨h, by omega, fun e => by omega⟩
  | 4, h => exact Or.inr ⟨h, by omega, fun e => by omega⟩
  | 5, h => exact Or.inr ⟨h, by omega, fun e => by omega⟩
  | 6, h => exact Or.inr ⟨h, by omega, fun e => by omega⟩
  | 7, h => exact Or.inr ⟨h, by omega, fun e => by omega⟩
  | 8, h => exact Or.inr ⟨h, by omega, fun e => by omega⟩
  | 9, h => exact Or.inr ⟨h, by omega, fun e => by omega⟩
  | 10, h => exact Or.inr ⟨h, by omega, fun e => by omega⟩
  | 11, h => exact Or.inr ⟨h, by omega, fun e => by omega⟩
  | 12, h => exact Or.inr ⟨h, by omega, fun e => by omega⟩
  | 13, h => exact Or.inr ⟨h, by omega, fun e => by omega⟩
  | 14, h => exact Or.inr ⟨h, by omega, fun e => by omega⟩
  | 15, h => exact Or.inr ⟨h, by omega, fun e => by omega⟩
  | 16, h => exact Or.inr ⟨h, by omega, fun e => by omega⟩
  | 17, h => exact Or.inr ⟨h, by omega, fun _ => zc1_ne hc (Option.some.inj h)⟩
  | 18, h => exact Or.inl ⟨rfl, (Option.some.inj (Option.some.inj h)).symm⟩
  | j + 19, h => exact Or.inr ⟨h, by omega, fun e => by omega⟩
theorem z_is18 {x : Int32} (g : zGd E G cc own nL d K S) (hd : decode cc pc = .ok (.istore 18, 2)) (hc : zc1 a17 = true) (k : Z E G kc ks n T I L R (pc + 2) (a0 :: a1 :: a2 :: a3 :: a4 :: a5 :: a6 :: a7 :: a8 :: a9 :: a10 :: a11 :: a12 :: a13 :: a14 :: a15 :: a16 :: a17 :: some (.int x) :: tl) st) : Z E G kc ks n T I L R pc (a0 :: a1 :: a2 :: a3 :: a4 :: a5 :: a6 :: a7 :: a8 :: a9 :: a10 :: a11 :: a12 :: a13 :: a14 :: a15 :: a16 :: a17 :: a18 :: tl) (.int x :: st) := z_istoreW g hd (zst_18 hc) k
theorem z_as18 {x : Nat} (g : zGd E G cc own nL d K S) (hd : decode cc pc = .ok (.astore 18, 2)) (hc : zc1 a17 = true) (k : Z E G kc ks n T I L R (pc + 2) (a0 :: a1 :: a2 :: a3 :: a4 :: a5 :: a6 :: a7 :: a8 :: a9 :: a10 :: a11 :: a12 :: a13 :: a14 :: a15 :: a16 :: a17 :: some (.ref x) :: tl) st) : Z E G kc ks n T I L R pc (a0 :: a1 :: a2 :: a3 :: a4 :: a5 :: a6 :: a7 :: a8 :: a9 :: a10 :: a11 :: a12 :: a13 :: a14 :: a15 :: a16 :: a17 :: a18 :: tl) (.ref x :: st) := z_astoreW g hd (zst_18 hc) k
theorem zst2_18 (hc : zc1 a17 = true) {v : Value} : zst2 (a0 :: a1 :: a2 :: a3 :: a4 :: a5 :: a6 :: a7 :: a8 :: a9 :: a10 :: a11 :: a12 :: a13 :: a14 :: a15 :: a16 :: a17 :: a18 :: a19 :: tl) (a0 :: a1 :: a2 :: a3 :: a4 :: a5 :: a6 :: a7 :: a8 :: a9 :: a10 :: a11 :: a12 :: a13 :: a14 :: a15 :: a16 :: a17 :: some v :: none :: tl) 18 v := by
  refine ⟨by simp only [List.length_cons]; omega, by simp only [List.length_cons], fun j w h => ?_⟩
  match j, h with
  | 0, h => exact Or.inr ⟨h, by omega, by omega, fun e => by omega⟩
  | 1, h => exact Or.inr ⟨h, by omega, by omega, fun e => by omega⟩
  | 2, h => exact Or.inr ⟨h, by omega, by omega, fun e => by omega⟩
  | 3, h => exact Or.inr ⟨h, by omega, by omega, fun e => by omega⟩
  | 4, h => exact Or.inr ⟨h, by omega, by omega, fun e => by omega⟩
  | 5, h => exact Or.inr ⟨h, by omega, by omega, fun e => by omega⟩
  | 6, h => exact Or.inr ⟨h, by omega, by omega, fun e => by omega⟩
  | 7, h => exact Or.inr ⟨h, by omega, by omega, fun e => by omega⟩
  | 8, h => exact Or.inr ⟨h, by omega, by omega, fun e => by omega⟩
  | 9, h => exact Or.inr ⟨h, by omega, by omega, fun e => by omega⟩
  | 10, h => exact Or.inr ⟨h, by omega, by omega, fun e => by omega⟩
  | 11, h => exact Or.inr ⟨h, by omega, by omega, fun e => by omega⟩
  | 12, h => exact Or.inr ⟨h, by omega, by omega, fun e => by omega⟩
  | 13, h => exact Or.inr ⟨h, by omega, by omega, fun e => by omega⟩
  | 14, h => exact Or.inr ⟨h, by omega, by omega, fun e => by omega⟩
  | 15, h => exact Or.inr ⟨h, by omega, by omega, fun e => by omega⟩
  | 16, h => exact Or.inr ⟨h, by omega, by omega, fun e => by omega⟩
  | 17, h => exact Or.inr ⟨h, by omega, by omega, fun _ => zc1_ne hc (Option.some.inj h)⟩
  | 18, h => exact Or.inl ⟨rfl, (Option.some.inj (Option.some.inj h)).symm⟩
  | 19, h => exact absurd (Option.some.inj h) (fun z => by cases z)
  | j + 20, h => exact Or.inr ⟨h, by omega, by omega, fun e => by omega⟩
theorem z_ls18 {x : Int64} (g : zGd E G cc own nL d K S) (hd : decode cc pc = .ok (.lstore 18, 2)) (hc : zc1 a17 = true) (k : Z E G kc ks n T I L R (pc + 2) (a0 :: a1 :: a2 :: a3 :: a4 :: a5 :: a6 :: a7 :: a8 :: a9 :: a10 :: a11 :: a12 :: a13 :: a14 :: a15 :: a16 :: a17 :: some (.long x) :: none :: tl) st) : Z E G kc ks n T I L R pc (a0 :: a1 :: a2 :: a3 :: a4 :: a5 :: a6 :: a7 :: a8 :: a9 :: a10 :: a11 :: a12 :: a13 :: a14 :: a15 :: a16 :: a17 :: a18 :: a19 :: tl) (.long x :: st) := z_lstoreW g hd (zst2_18 hc) k
theorem z_inc18 {x v : Int32} {m : Int} (g : zGd E G cc own nL d K S) (hd : decode cc pc = .ok (.iinc 18 m, 3)) (hv : x + Int32.ofInt m = v) (hc : zc1 a17 = true) (k : Z E G kc ks n T I L R (pc + 3) (a0 :: a1 :: a2 :: a3 :: a4 :: a5 :: a6 :: a7 :: a8 :: a9 :: a10 :: a11 :: a12 :: a13 :: a14 :: a15 :: a16 :: a17 :: some (.int v) :: tl) st) : Z E G kc ks n T I L R pc (a0 :: a1 :: a2 :: a3 :: a4 :: a5 :: a6 :: a7 :: a8 :: a9 :: a10 :: a11 :: a12 :: a13 :: a14 :: a15 :: a16 :: a17 :: some (.int x) :: tl) st := z_iincG g hd rfl hv (zst_18 hc) k
theorem z_il19 {x : Int32} (g : zGd E G cc own nL d K S) (hd : decode cc pc = .ok (.iload 19, 2)) (k : Z E G kc ks n T I L R (pc + 2) (a0 :: a1 :: a2 :: a3 :: a4 :: a5 :: a6 :: a7 :: a8 :: a9 :: a10 :: a11 :: a12 :: a13 :: a14 :: a15 :: a16 :: a17 :: a18 :: some (.int x) :: tl) (.int x :: st)) : Z E G kc ks n T I L R pc (a0 :: a1 :: a2 :: a3 :: a4 :: a5 :: a6 :: a7 :: a8 :: a9 :: a10 :: a11 :: a12 :: a13 :: a14 :: a15 :: a16 :: a17 :: a18 :: some (.int x) :: tl) st := z_iloadW g hd rfl k
theorem z_ll19 {x : Int64} (g : zGd E G cc own nL d K S) (hd : decode cc pc = .ok (.lload 19, 2)) (k : Z E G kc ks n T I L R (pc + 2) (a0 :: a1 :: a2 :: a3 :: a4 :: a5 :: a6 :: a7 :: a8 :: a9 :: a10 :: a11 :: a12 :: a13 :: a14 :: a15 :: a16 :: a17 :: a18 :: some (.long x) :: tl) (.long x :: st)) : Z E G kc ks n T I L R pc (a0 :: a1 :: a2 :: a3 :: a4 :: a5 :: a6 :: a7 :: a8 :: a9 :: a10 :: a11 :: a12 :: a13 :: a14 :: a15 :: a16 :: a17 :: a18 :: some (.long x) :: tl) st := z_lloadW g hd rfl k
theorem z_al19 {x : Nat} (g : zGd E G cc own nL d K S) (hd : decode cc pc = .ok (.aload 19, 2)) (k : Z E G kc ks n T I L R (pc + 2) (a0 :: a1 :: a2 :: a3 :: a4 :: a5 :: a6 :: a7 :: a8 :: a9 :: a10 :: a11 :: a12 :: a13 :: a14 :: a15 :: a16 :: a17 :: a18 :: some (.ref x) :: tl) (.ref x :: st)) : Z E G kc ks n T I L R pc (a0 :: a1 :: a2 :: a3 :: a4 :: a5 :: a6 :: a7 :: a8 :: a9 :: a10 :: a11 :: a12 :: a13 :: a14 :: a15 :: a16 :: a17 :: a18 :: some (.ref x) :: tl) st := z_aloadW g hd rfl k
theorem zst_19 (hc : zc1 a18 = true) {v : Value} : zst (a0 :: a1 :: a2 :: a3 :: a4 :: a5 :: a6 :: a7 :: a8 :: a9 :: a10 :: a11 :: a12 :: a13 :: a14 :: a15 :: a16 :: a17 :: a18 :: a19 :: tl) (a0 :: a1 :: a2 :: a3 :: a4 :: a5 :: a6 :: a7 :: a8 :: a9 :: a10 :: a11 :: a12 :: a13 :: a14 :: a15 :: a16 :: a17 :: a18 :: some v :: tl) 19 v := by
  refine ⟨by simp only [List.length_cons]; omega, by simp only [List.length_cons], fun j w h => ?_⟩
  match j, h with
  | 0, h => exact Or.inr ⟨h, by omega, fun e => by omega⟩
  | 1, h => exact Or.inr ⟨h, by omega, fun e => by omega⟩
  | 2, h => exact Or.inr ⟨h, by omega, fun e => by omega⟩
  | 3, h => exact Or.inr ⟨h, by omega, fun e => by omega⟩
  | 4, h => exact Or.inr ⟨h, by omega, fun e => by omega⟩
  | 5, h => exact Or.inr ⟨h, by omega, fun e => by omega⟩
  | 6, h => exact Or.inr ⟨h, by omega, fun e => by omega⟩
  | 7, h => exact Or.inr ⟨h, by omega, fun e => by omega⟩
  | 8, h => exact Or.inr ⟨h, by omega, fun e => by omega⟩
  | 9, h => exact Or.inr ⟨h, by omega, fun e => by omega⟩
  | 10, h => exact Or.inr ⟨h, by omega, fun e => by omega⟩
  | 11, h => exact Or.inr ⟨h, by omega, fun e => by omega⟩
  | 12, h => exact Or.inr ⟨h, by omega, fun e => by omega⟩
  | 13, h => exact Or.inr ⟨h, by omega, fun e => by omega⟩
  | 14, h => exact Or.inr ⟨h, by omega, fun e => by omega⟩
  | 15, h => exact Or.inr ⟨h, by omega, fun e => by omega⟩
  | 16, h => exact Or.inr ⟨h, by omega, fun e => by omega⟩
  | 17, h => exact Or.inr ⟨h, by omega, fun e => by omega⟩
  | 18, h => exact Or.inr ⟨h, by omega, fun _ => zc1_ne hc (Option.some.inj h)⟩
  | 19, h => exact Or.inl ⟨rfl, (Option.some.inj (Option.some.inj h)).symm⟩
  | j + 20, h => exact Or.inr ⟨h, by omega, fun e => by omega⟩
theorem z_is19 {x : Int32} (g : zGd E G cc own nL d K S) (hd : decode cc pc = .ok (.istore 19, 2)) (hc : zc1 a18 = true) (k : Z E G kc ks n T I L R (pc + 2) (a0 :: a1 :: a2 :: a3 :: a4 :: a5 :: a6 :: a7 :: a8 :: a9 :: a10 :: a11 :: a12 :: a13 :: a14 :: a15 :: a16 :: a17 :: a18 :: some (.int x) :: tl) st) : Z E G kc ks n T I L R pc (a0 :: a1 :: a2 :: a3 :: a4 :: a5 :: a6 :: a7 :: a8 :: a9 :: a10 :: a11 :: a12 :: a13 :: a14 :: a15 :: a16 :: a17 :: a18 :: a19 :: tl) (.int x :: st) := z_istoreW g hd (zst_19 hc) k
theorem z_as19 {x : Nat} (g : zGd E G cc own nL d K S) (hd : decode cc pc = .ok (.astore 19, 2)) (hc : zc1 a18 = true) (k : Z E G kc ks n T I L R (pc + 2) (a0 :: a1 :: a2 :: a3 :: a4 :: a5 :: a6 :: a7 :: a8 :: a9 :: a10 :: a11 :: a12 :: a13 :: a14 :: a15 :: a16 :: a17 :: a18 :: some (.ref x) :: tl) st) : Z E G kc ks n T I L R pc (a0 :: a1 :: a2 :: a3 :: a4 :: a5 :: a6 :: a7 :: a8 :: a9 :: a10 :: a11 :: a12 :: a13 :: a14 :: a15 :: a16 :: a17 :: a18 :: a19 :: tl) (.ref x :: st) := z_astoreW g hd (zst_19 hc) k
theorem zst2_19 (hc : zc1 a18 = true) {v : Value} : zst2 (a0 :: a1 :: a2 :: a3 :: a4 :: a5 :: a6 :: a7 :: a8 :: a9 :: a10 :: a11 :: a12 :: a13 :: a14 :: a15 :: a16 :: a17 :: a18 :: a19 :: a20 :: tl) (a0 :: a1 :: a2 :: a3 :: a4 :: a5 :: a6 :: a7 :: a8 :: a9 :: a10 :: a11 :: a12 :: a13 :: a14 :: a15 :: a16 :: a17 :: a18 :: some v :: none :: tl) 19 v := by
  refine ⟨by simp only [List.length_cons]; omega, by simp only [List.length_cons], fun j w h => ?_⟩
  match j, h with
  | 0, h => exact Or.inr ⟨h, by omega, by omega, fun e => by omega⟩
  | 1, h => exact Or.inr ⟨h, by omega, by omega, fun e => by omega⟩
  | 2, h => exact Or.inr ⟨h, by omega, by omega, fun e => by omega⟩
  | 3, h => exact Or.inr ⟨h, by omega, by omega, fun e => by omega⟩
  | 4, h => exact Or.inr ⟨h, by omega, by omega, fun e => by omega⟩
  | 5, h => exact Or.inr ⟨h, by omega, by omega, fun e => by omega⟩
  | 6, h => exact Or.inr ⟨h, by omega, by omega, fun e => by omega⟩
  | 7, h => exact Or.inr ⟨h, by omega, by omega, fun e => by omega⟩
  | 8, h => exact Or.inr ⟨h, by omega, by omega, fun e => by omega⟩
  | 9, h => exact Or.inr ⟨h, by omega, by omega, fun e => by omega⟩
  | 10, h => exact Or.inr ⟨h, by omega, by omega, fun e => by omega⟩
  | 11, h => exact Or.inr ⟨h, by omega, by omega, fun e => by omega⟩
  | 12, h => exact Or.inr ⟨h, by omega, by omega, fun e => by omega⟩
  | 13, h => exact Or.inr ⟨h, by omega, by omega, fun e => by omega⟩
  | 14, h => exact Or.inr ⟨h, by omega, by omega, fun e => by omega⟩
  | 15, h => exact Or.inr ⟨h, by omega, by omega, fun e => by omega⟩
  | 16, h => exact Or.inr ⟨h, by omega, by omega, fun e => by omega⟩
  | 17, h => exact Or.inr ⟨h, by omega, by omega, fun e => by omega⟩
  | 18, h => exact Or.inr ⟨h, by omega, by omega, fun _ => zc1_ne hc (Option.some.inj h)⟩
  | 19, h => exact Or.inl ⟨rfl, (Option.some.inj (Option.some.inj h)).symm⟩
  | 20, h => exact absurd (Option.some.inj h) (fun z => by cases z)
  | j + 21, h => exact Or.inr ⟨h, by omega, by omega, fun e => by omega⟩
theorem z_ls19 {x : Int64} (g : zGd E G cc own nL d K S) (hd : decode cc pc = .ok (.lstore 19, 2)) (hc : zc1 a18 = true) (k : Z E G kc ks n T I L R (pc + 2) (a0 :: a1 :: a2 :: a3 :: a4 :: a5 :: a6 :: a7 :: a8 :: a9 :: a10 :: a11 :: a12 :: a13 :: a14 :: a15 :: a16 :: a17 :: a18 :: some (.long x) :: none :: tl) st) : Z E G kc ks n T I L R pc (a0 :: a1 :: a2 :: a3 :: a4 :: a5 :: a6 :: a7 :: a8 :: a9 :: a10 :: a11 :: a12 :: a13 :: a14 :: a15 :: a16 :: a17 :: a18 :: a19 :: a20 :: tl) (.long x :: st) := z_lstoreW g hd (zst2_19 hc) k
theorem z_inc19 {x v : Int32} {m : Int} (g : zGd E G cc own nL d K S) (hd : decode cc pc = .ok (.iinc 19 m, 3)) (hv : x + Int32.ofInt m = v) (hc : zc1 a18 = true) (k : Z E G kc ks n T I L R (pc + 3) (a0 :: a1 :: a2 :: a3 :: a4 :: a5 :: a6 :: a7 :: a8 :: a9 :: a10 :: a11 :: a12 :: a13 :: a14 :: a15 :: a16 :: a17 :: a18 :: some (.int v) :: tl) st) : Z E G kc ks n T I L R pc (a0 :: a1 :: a2 :: a3 :: a4 :: a5 :: a6 :: a7 :: a8 :: a9 :: a10 :: a11 :: a12 :: a13 :: a14 :: a15 :: a16 :: a17 :: a18 :: some (.int x) :: tl) st := z_iincG g hd rfl hv (zst_19 hc) k
end ZLoc