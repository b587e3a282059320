/-! ===== calls ===== -/
set_option maxRecDepth 100000
/-- a method that can be called: its code, its class, how many arguments (apart from the object), how many locals -/
def zCk (y : MethodName) (b : ByteArray) (L : Nat) (r : Option FieldType) (na : Nat) : Prop := Cond.code y b L r ∈ lw_all ∧ Cond.initialized y.cls ∈ lw_all ∧ (y.cls ≠ "java/lang/invoke/MethodHandle" ∧ y.cls ≠ "java/lang/invoke/VarHandle") ∧ (parseMethodDescriptor y.desc).map (fun d => d.parameters.length) = some na ∧ L ≤ 45
theorem zlenOf {ds : String} {na : Nat} (h : (parseMethodDescriptor ds).map (fun d => d.parameters.length) = some na) : ∀ sig, parseMethodDescriptor ds = some sig → na = sig.parameters.length := fun sig e => by
  rw [e] at h
  exact (Option.some.inj h).symm
/-- the stack below a call's arguments is short -/
def zshort (st : List Value) : Prop := (st.map fun v => v.category).sum ≤ 8
section ZCall
variable {E : ZE} {G : ZG} {cc : ByteArray} {own : String} {nL d K S kc ks n : Nat} {T : ZT} {I : ZI} {L : ZL} {R : ZR} {pc : Nat} {lv : List (Option Value)} {st st0 rest As : List Value}
variable {y : MethodName} {bb : ByteArray} {mL d' mc ms na index : Nat} {rt : Option FieldType} {P : ZP}
theorem zGd.rm (g : zGd E G cc own nL d K S) (hck : zCk y bb mL rt na) (hd' : d' + 1 ≤ d) : (zrm d' mc ms).frames + 1 ≤ (gR G).frames ∧ 8 + (mL + 11) + (zrm d' mc ms).locals ≤ (gR G).locals := by
  have h1 := g.fr
  have h2 := g.lo
  have h3 := hck.2.2.2.2
  exact ⟨by show d' + 1 ≤ _; omega, by show 8 + (mL + 11) + 64 * d' ≤ _; omega⟩
theorem zGd.pay (g : zGd E G cc own nL d K S) (hck : zCk y bb mL rt na) : ∀ w ∈ [Cond.code y bb mL rt], ∀ (a' : Array Value) (U : State), (gs G).WarmedH U.vm → w.before a' U = true := fun w hw a' U hW => by
  rw [List.mem_singleton.mp hw]
  exact word_at hW (good_of_word (List.mem_filter.mp hck.1).2) (g.w hck.1)
theorem zGd.cb (g : zGd E G cc own nL d K S) (hck : zCk y bb mL rt na) (hl : Cond.methodLink own index y ∈ lw_all) (hd' : d' + 1 ≤ d) : CallB (gR G) (gs G) (ga G) own index y bb mL rt [Cond.code y bb mL rt] (zrm d' mc ms) mc ms na :=
  ⟨rfl, rfl, (g.rm (mc := mc) (ms := ms) hck hd').1, (g.rm (mc := mc) (ms := ms) hck hd').2, g.pay hck, List.mem_singleton.mpr rfl, g.w hck.1, g.w hck.2.1, hck.2.2.1, zlenOf hck.2.2.2.1, g.w hl⟩
theorem zGd.cf (g : zGd E G cc own nL d K S) : CallFix (gp G) (gm G) (gc G) cc nL (gs G) (ga G) lw_all own := ⟨g.x, g.b, g.ml, g.ow, fun w h => g.w h⟩
abbrev zPc (E : ZE) (As : List Value) (n : Nat) (T : ZT) (I : ZI) (L : ZL) (R : ZR) : Array Value → State → Prop := va_Pc As (fun U => zRep E n T I L R U.heap ∧ (zs0 E).WarmedH U.vm)
theorem zblind : FrameBlind (zPc E As n T I L R) := fun _ _ _ _ h => h
theorem zGd.pre (g : zGd E G cc own nL d K S) {H : Heap} (hR : zRep E n T I L R H) : ∀ U : State, U.heap = H → (gs G).WarmedH U.vm → zPc E As n T I L R As.toArray U := fun U hU hW => ⟨rfl, by rw [hU]; exact hR, State.WarmedH.trans g.wm hW⟩
theorem z_after (hr : ∀ (H : Heap) (locs : List Loc) (ls : Array Slot), zRep E n T I L R H → zlv lv ls → va_Run (gp G) (zl E) (ge G) (gR G) (gs G) (gm G) (ga G) (gb G) (gM G) (gc G) H locs kc ks mc ms (F0 (gm G) pc ls st0) rest (zQc E P As.toArray) (fun q => zBase E ≤ q))
    (kk : ∀ (v : Option Value) (n' : Nat) (T' : ZT) (I' : ZI) (L' : ZL) (R' : ZR), P v n' T' I' L' R' → Z E G (kc + mc) (ks + ms) n' T' I' L' R' (pc + 3) lv (v.toList ++ rest)) : Z E G kc ks n T I L R pc lv st0 := fun H locs ls hR hL hlv => by
  intro U hU X
  obtain ⟨v, u₀, t, U', Lc, h0, X', hL', e1, e2, ⟨v', n', T', I', L', R', ho, hP, hR'⟩, stp⟩ := hr H locs ls hR hlv U hU X
  cases ho
  obtain ⟨t2, a1, b1⟩ := kk v n' T' I' L' R' hP U'.heap (locs ++ Lc) ls (by rw [e1]; exact hR') (fun q hq => by
    rcases List.mem_append.mp hq with h | h
    · exact hL q h
    · exact hL' q h) hlv U' rfl X'
  exact ⟨t2, stp t2 a1, b1⟩
theorem z_after5 (hr : ∀ (H : Heap) (locs : List Loc) (ls : Array Slot), zRep E n T I L R H → zlv lv ls → va_Run5 (gp G) (zl E) (ge G) (gR G) (gs G) (gm G) (ga G) (gb G) (gM G) (gc G) H locs kc ks mc ms (F0 (gm G) pc ls st0) rest (zQc E P As.toArray) (fun q => zBase E ≤ q))
    (kk : ∀ (v : Option Value) (n' : Nat) (T' : ZT) (I' : ZI) (L' : ZL) (R' : ZR), P v n' T' I' L' R' → Z E G (kc + mc) (ks + ms) n' T' I' L' R' (pc + 5) lv (v.toList ++ rest)) : Z E G kc ks n T I L R pc lv st0 := fun H locs ls hR hL hlv => by
  intro U hU X
  obtain ⟨v, u₀, t, U', Lc, h0, X', hL', e1, e2, ⟨v', n', T', I', L', R', ho, hP, hR'⟩, stp⟩ := hr H locs ls hR hlv U hU X
  cases ho
  obtain ⟨t2, a1, b1⟩ := kk v n' T' I' L' R' hP U'.heap (locs ++ Lc) ls (by rw [e1]; exact hR') (fun q hq => by
    rcases List.mem_append.mp hq with h | h
    · exact hL q h
    · exact hL' q h) hlv U' rfl X'
  exact ⟨t2, stp t2 a1, b1⟩
theorem z_callS (g : zGd E G cc own nL d K S) (hck : zCk y bb mL rt na) (hl : Cond.methodLink own index y ∈ lw_all) (hsta : Cond.static y ∈ lw_all) (hM : zM E y bb mL rt d' mc ms As n T I L R P) (hna : As.length = na) (hml : lv.length = nL) (hst : st0 = As.reverse ++ rest) (hw : zshort rest) (hd' : d' + 1 ≤ d) (h1 : kc + mc ≤ K) (h2 : ks + ms ≤ S) (hd : decode cc pc = .ok (.invokestatic index, 3))
    (kk : ∀ (v : Option Value) (n' : Nat) (T' : ZT) (I' : ZI) (L' : ZL) (R' : ZR), P v n' T' I' L' R' → Z E G (kc + mc) (ks + ms) n' T' I' L' R' (pc + 3) lv (v.toList ++ rest)) : Z E G kc ks n T I L R pc lv st0 :=
  z_after (As := As) (fun H locs ls hR hlv => va_runS g.cf (hM g.ok) ⟨g.cb hck hl hd', g.w hsta⟩ ⟨zblind, g.pre hR⟩ rfl hna (hlv.1.trans hml) hst (lv_room (pc := pc) (rest := st0) hw) hd ⟨by rw [g.ce]; exact h1, by rw [g.sl]; exact h2⟩) kk
theorem z_callV {b c N : Nat} {C : String} {TT : u_T} (g : zGd E G cc own nL d K S) (hck : zCk y bb mL rt na) (hl : Cond.methodLink own index y ∈ lw_all) (hin : Cond.instanceMethod y ∈ lw_all) (hsel : Cond.selects C y y ∈ lw_all) (hc : zCls c C TT N) (hT : T b = zo c) (hM : zM E y bb mL rt d' mc ms (.ref b :: As) n T I L R P) (hna : As.length = na) (hml : lv.length = nL) (hst : st0 = As.reverse ++ .ref b :: rest) (hw : zshort rest) (hd' : d' + 1 ≤ d) (h1 : kc + mc ≤ K) (h2 : ks + ms ≤ S) (hd : decode cc pc = .ok (.invokevirtual index, 3))
    (kk : ∀ (v : Option Value) (n' : Nat) (T' : ZT) (I' : ZI) (L' : ZL) (R' : ZR), P v n' T' I' L' R' → Z E G (kc + mc) (ks + ms) n' T' I' L' R' (pc + 3) lv (v.toList ++ rest)) : Z E G kc ks n T I L R pc lv st0 :=
  z_after (As := .ref b :: As) (fun H locs ls hR hlv => va_runV g.cf (hM g.ok) ⟨g.cb hck hl hd', g.w hin, g.w hsel⟩ ⟨zblind, g.recv hc.1 hR hT, g.pre hR⟩ rfl hna (hlv.1.trans hml) hst (lv_room (pc := pc) (rest := st0) hw) hd ⟨by rw [g.ce]; exact h1, by rw [g.sl]; exact h2⟩) kk
theorem z_callI {b : Nat} (g : zGd E G cc own nL d K S) (hck : zCk y bb mL none na) (hl : Cond.methodLink own index y ∈ lw_all) (hin : Cond.instanceMethod y ∈ lw_all) (hnm : y.name = "<init>") (hM : zM E y bb mL none d' mc ms (.ref b :: As) n T I L R P) (hna : As.length = na) (hml : lv.length = nL) (hst : st0 = As.reverse ++ .ref b :: rest) (hw : zshort rest) (hd' : d' + 1 ≤ d) (h1 : kc + mc ≤ K) (h2 : ks + ms ≤ S) (hd : decode cc pc = .ok (.invokespecial index, 3))
    (kk : ∀ (v : Option Value) (n' : Nat) (T' : ZT) (I' : ZI) (L' : ZL) (R' : ZR), P v n' T' I' L' R' → Z E G (kc + mc) (ks + ms) n' T' I' L' R' (pc + 3) lv (v.toList ++ rest)) : Z E G kc ks n T I L R pc lv st0 :=
  z_after (As := .ref b :: As) (fun H locs ls hR hlv => va_runI g.cf (hM g.ok) ⟨g.cb hck hl hd', hnm, g.w hin⟩ ⟨zblind, g.pre hR⟩ rfl hna (hlv.1.trans hml) hst (lv_room (pc := pc) (rest := st0) hw) hd ⟨by rw [g.ce]; exact h1, by rw [g.sl]; exact h2⟩) kk
/-- what a call among nest mates asks -/
theorem zGd.cn {host : String} (g : zGd E G cc own nL d K S) (hck : zCk y bb mL rt na) (hl : Cond.methodLinkNest own index y host ∈ lw_tbl) (hd' : d' + 1 ≤ d) : va_CN (gR G) (gs G) (ga G) own index y host bb mL rt [Cond.code y bb mL rt] (zrm d' mc ms) mc ms na :=
  ⟨⟨rfl, rfl, (g.rm (mc := mc) (ms := ms) hck hd').1, (g.rm (mc := mc) (ms := ms) hck hd').2, g.pay hck, List.mem_singleton.mpr rfl⟩, g.w hck.1, g.w hck.2.1, hck.2.2.1, zlenOf hck.2.2.2.1, va_Nw.use rfl (g.wM hl)⟩
theorem z_callIN {b : Nat} {host : String} (g : zGd E G cc own nL d K S) (hck : zCk y bb mL none na) (hl : Cond.methodLinkNest own index y host ∈ lw_tbl) (hin : Cond.instanceMethod y ∈ lw_all) (hnm : y.name = "<init>") (hM : zM E y bb mL none d' mc ms (.ref b :: As) n T I L R P) (hna : As.length = na) (hml : lv.length = nL) (hst : st0 = As.reverse ++ .ref b :: rest) (hw : zshort rest) (hd' : d' + 1 ≤ d) (h1 : kc + mc ≤ K) (h2 : ks + ms ≤ S) (hd : decode cc pc = .ok (.invokespecial index, 3))
    (kk : ∀ (v : Option Value) (n' : Nat) (T' : ZT) (I' : ZI) (L' : ZL) (R' : ZR), P v n' T' I' L' R' → Z E G (kc + mc) (ks + ms) n' T' I' L' R' (pc + 3) lv (v.toList ++ rest)) : Z E G kc ks n T I L R pc lv st0 :=
  z_after (As := .ref b :: As) (fun H locs ls hR hlv => va_runIN g.cf (hM g.ok) ⟨g.cn hck hl hd', hnm, g.w hin⟩ ⟨zblind, g.pre hR⟩ rfl hna (hlv.1.trans hml) hst (lv_room (pc := pc) (rest := st0) hw) hd ⟨by rw [g.ce]; exact h1, by rw [g.sl]; exact h2⟩) kk
theorem z_callVN {b c N : Nat} {C host : String} {TT : u_T} (g : zGd E G cc own nL d K S) (hck : zCk y bb mL rt na) (hl : Cond.methodLinkNest own index y host ∈ lw_tbl) (hin : Cond.instanceMethod y ∈ lw_all) (hsel : Cond.selects C y y ∈ lw_all) (hc : zCls c C TT N) (hT : T b = zo c) (hM : zM E y bb mL rt d' mc ms (.ref b :: As) n T I L R P) (hna : As.length = na) (hml : lv.length = nL) (hst : st0 = As.reverse ++ .ref b :: rest) (hw : zshort rest) (hd' : d' + 1 ≤ d) (h1 : kc + mc ≤ K) (h2 : ks + ms ≤ S) (hd : decode cc pc = .ok (.invokevirtual index, 3))
    (kk : ∀ (v : Option Value) (n' : Nat) (T' : ZT) (I' : ZI) (L' : ZL) (R' : ZR), P v n' T' I' L' R' → Z E G (kc + mc) (ks + ms) n' T' I' L' R' (pc + 3) lv (v.toList ++ rest)) : Z E G kc ks n T I L R pc lv st0 :=
  z_after (As := .ref b :: As) (fun H locs ls hR hlv => va_runVN g.cf (hM g.ok) ⟨g.cn hck hl hd', g.w hin, g.w hsel⟩ ⟨zblind, g.recv hc.1 hR hT, g.pre hR⟩ rfl hna (hlv.1.trans hml) hst (lv_room (pc := pc) (rest := st0) hw) hd ⟨by rw [g.ce]; exact h1, by rw [g.sl]; exact h2⟩) kk
theorem zGd.dcl (g : zGd E G cc own nL d K S) {z : MethodName} {zb : ByteArray} {zm : Nat} {zr : Option FieldType} (h1 : Cond.instanceMethod z ∈ lw_all) (h2 : Cond.code z zb zm zr ∈ lw_all) : va_Decl (gs G) z := va_Decl.of (g.w h1) (g.w h2)
/-- a method by the name of a class above: the object's class selects y -/
theorem z_callU {b c N : Nat} {C owner : String} {TT : u_T} {x : MethodName} (g : zGd E G cc own nL d K S) (hck : zCk y bb mL rt na) (hl : Cond.methodLink own index x ∈ lw_all) (hsame : Cond.sameMethod x.cls owner x.name x.desc ∈ lw_all) (hdcl : va_Decl (gs G) ⟨owner, x.name, x.desc⟩) (ho : owner ≠ "java/lang/invoke/MethodHandle" ∧ owner ≠ "java/lang/invoke/VarHandle") (hxd : x.desc = y.desc) (hin : Cond.instanceMethod y ∈ lw_all) (hsel : Cond.selects C x y ∈ lw_all) (hc : zCls c C TT N) (hT : T b = zo c) (hM : zM E y bb mL rt d' mc ms (.ref b :: As) n T I L R P) (hna : As.length = na) (hml : lv.length = nL) (hst : st0 = As.reverse ++ .ref b :: rest) (hw : zshort rest) (hd' : d' + 1 ≤ d) (h1 : kc + mc ≤ K) (h2 : ks + ms ≤ S) (hd : decode cc pc = .ok (.invokevirtual index, 3))
    (kk : ∀ (v : Option Value) (n' : Nat) (T' : ZT) (I' : ZI) (L' : ZL) (R' : ZR), P v n' T' I' L' R' → Z E G (kc + mc) (ks + ms) n' T' I' L' R' (pc + 3) lv (v.toList ++ rest)) : Z E G kc ks n T I L R pc lv st0 :=
  z_after (As := .ref b :: As) (fun H locs ls hR hlv => va_runU (owner := owner) (x := x) g.cf (hM g.ok) ⟨⟨rfl, rfl, (g.rm (mc := mc) (ms := ms) hck hd').1, (g.rm (mc := mc) (ms := ms) hck hd').2, g.pay hck, List.mem_singleton.mpr rfl⟩, g.w hck.1, g.w hck.2.1, ho, zlenOf (by rw [hxd]; exact hck.2.2.2.1), g.w hl, g.w hsame, hdcl, g.w hsel, g.w hin⟩ ⟨zblind, g.recv hc.1 hR hT, g.pre hR⟩ rfl hna (hlv.1.trans hml) hst (lv_room (pc := pc) (rest := st0) hw) hd ⟨by rw [g.ce]; exact h1, by rw [g.sl]; exact h2⟩) kk
/-- a method of the class above, by super -/
theorem z_callSU {b c N : Nat} {C : String} {TT : u_T} (g : zGd E G cc own nL d K S) (hck : zCk y bb mL rt na) (hl : Cond.methodLink own index y ∈ lw_all) (hsame : Cond.sameMethod y.cls y.cls y.name y.desc ∈ lw_all) (hsup : Cond.superclass own y.cls ∈ lw_all) (hin : Cond.instanceMethod y ∈ lw_all) (hno : y.name ≠ "<init>") (hc : zCls c C TT N) (hT : T b = zo c) (hM : zM E y bb mL rt d' mc ms (.ref b :: As) n T I L R P) (hna : As.length = na) (hml : lv.length = nL) (hst : st0 = As.reverse ++ .ref b :: rest) (hw : zshort rest) (hd' : d' + 1 ≤ d) (h1 : kc + mc ≤ K) (h2 : ks + ms ≤ S) (hd : decode cc pc = .ok (.invokespecial index, 3))
    (kk : ∀ (v : Option Value) (n' : Nat) (T' : ZT) (I' : ZI) (L' : ZL) (R' : ZR), P v n' T' I' L' R' → Z E G (kc + mc) (ks + ms) n' T' I' L' R' (pc + 3) lv (v.toList ++ rest)) : Z E G kc ks n T I L R pc lv st0 :=
  z_after (As := .ref b :: As) (fun H locs ls hR hlv => va_runSU (g.kn hc.1).2 g.cf (hM g.ok) ⟨⟨rfl, rfl, (g.rm (mc := mc) (ms := ms) hck hd').1, (g.rm (mc := mc) (ms := ms) hck hd').2, g.pay hck, List.mem_singleton.mpr rfl⟩, g.w hl, g.w hsame, g.w hsup, g.w hin, g.w hck.2.1, g.w hck.1, hno, zlenOf hck.2.2.2.1⟩ ⟨zblind, g.recv hc.1 hR hT, g.pre hR⟩ rfl hna (hlv.1.trans hml) hst (lv_room (pc := pc) (rest := st0) hw) hd ⟨by rw [g.ce]; exact h1, by rw [g.sl]; exact h2⟩) kk
/-- an interface's method -/
theorem z_callF {b c N count : Nat} {C : String} {TT : u_T} {x : MethodName} (g : zGd E G cc own nL d K S) (hck : zCk y bb mL rt na) (hl : Cond.methodLink own index x ∈ lw_all) (hxn : x.cls ≠ "java/lang/invoke/MethodHandle" ∧ x.cls ≠ "java/lang/invoke/VarHandle") (hxd : x.desc = y.desc) (hin : Cond.instanceMethod y ∈ lw_all) (hsel : Cond.selects C x y ∈ lw_all) (w1 : Cond.declares x ∈ lw_tbl) (w2 : Cond.interfaceMethod x.cls x.cls x.name x.desc ∈ lw_tbl) (w3 : Cond.publicMethod y ∈ lw_tbl) (w4 : Cond.unhidden C x.name x.desc ∈ lw_tbl) (w5 : Cond.castable C x.cls ∈ lw_tbl) (hc : zCls c C TT N) (hT : T b = zo c) (hM : zM E y bb mL rt d' mc ms (.ref b :: As) n T I L R P) (hna : As.length = na) (hml : lv.length = nL) (hst : st0 = As.reverse ++ .ref b :: rest) (hw : zshort rest) (hd' : d' + 1 ≤ d) (h1 : kc + mc ≤ K) (h2 : ks + ms ≤ S) (hd : decode cc pc = .ok (.invokeinterface index count, 5))
    (kk : ∀ (v : Option Value) (n' : Nat) (T' : ZT) (I' : ZI) (L' : ZL) (R' : ZR), P v n' T' I' L' R' → Z E G (kc + mc) (ks + ms) n' T' I' L' R' (pc + 5) lv (v.toList ++ rest)) : Z E G kc ks n T I L R pc lv st0 := by
  have hF : va_Fw C x y (gs G) := va_Fw.moved hxn g.wm.alike (va_Fw.of (g.ok.1 _ w1) (g.ok.1 _ w2) (g.ok.1 _ w3) (g.ok.1 _ w4) (g.ok.1 _ w5))
  exact z_after5 (As := .ref b :: As) (fun H locs ls hR hlv => va_runF (x := x) (g.kn hc.1).2 g.cf (hM g.ok) ⟨⟨rfl, rfl, (g.rm (mc := mc) (ms := ms) hck hd').1, (g.rm (mc := mc) (ms := ms) hck hd').2, g.pay hck, List.mem_singleton.mpr rfl⟩, g.w hl, va_any rfl hF.1, va_any rfl hF.2.1, g.w hsel, g.w hin, va_any rfl hF.2.2.1, va_any rfl hF.2.2.2.1, va_any rfl hF.2.2.2.2, g.w hck.2.1, g.w hck.1, hxn, zlenOf (by rw [hxd]; exact hck.2.2.2.1)⟩ ⟨zblind, g.recv hc.1 hR hT, g.pre hR⟩ rfl hna (hlv.1.trans hml) hst (lv_room (pc := pc) (rest := st0) hw) hd ⟨by rw [g.ce]; exact h1, by rw [g.sl]; exact h2⟩) kk
end ZCall
/-! answers said exactly -/
/-- just this answer, just this memory -/
def zis (v0 : Option Value) (n0 : Nat) (T0 : ZT) (I0 : ZI) (L0 : ZL) (R0 : ZR) : ZP := fun v n T I L R => v = v0 ∧ n = n0 ∧ T = T0 ∧ I = I0 ∧ L = L0 ∧ R = R0
theorem zis.rf {v : Option Value} {n : Nat} {T : ZT} {I : ZI} {L : ZL} {R : ZR} : zis v n T I L R v n T I L R := ⟨rfl, rfl, rfl, rfl, rfl, rfl⟩
theorem zM.mono {E : ZE} {y : MethodName} {cc : ByteArray} {nL : Nat} {ret : Option FieldType} {d K S : Nat} {As : List Value} {n : Nat} {T : ZT} {I : ZI} {L : ZL} {R : ZR} {P P' : ZP} (h : zM E y cc nL ret d K S As n T I L R P) (hP : ∀ v n T I L R, P v n T I L R → P' v n T I L R) : zM E y cc nL ret d K S As n T I L R P' := by
  intro hE p e ha hc hk s m args below hf hap hpre hkk
  obtain ⟨k, o, h1, h2, h3, ⟨v, n', T', I', L', R', e1, e2, e3⟩, h5⟩ := h hE p e ha hc hk s m args below hf hap hpre hkk
  exact ⟨k, o, h1, h2, h3, ⟨v, n', T', I', L', R', e1, hP _ _ _ _ _ _ e2, e3⟩, h5⟩
