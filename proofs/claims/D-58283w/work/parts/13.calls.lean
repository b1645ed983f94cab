/-! ===== calls ===== -/
set_option maxRecDepth 100000
def rcv (D : va_G) (b0 : Nat) (s : State) (G : gM) (a : Nat) (C : String) : Prop := ∀ (H : Heap) (locs : List Loc), gs D b0 s G H locs → ∃ cellB : Cell, H[a]? = some cellB ∧ cellB.vm.isStatics = false ∧ s.vm.findClass C = some cellB.cls
section GWL
variable {p : Program} {l : Launch} {e : Env} {R : Room} {s : State} {m : MethodId} {args : Array Value} {below : List Frame} {meth : Method} {c : Code} {Q : State → Prop}
variable {D : va_G} {X : Nat → Nat} {b0 nL bc bs pc q : Nat} {own : String} {cc : ByteArray} {ret : Option FieldType} {G : gM} {lv lv' lv1 : List (Option Value)} {st : List Value}
theorem rc_o (hc : cx p s m args meth c D X b0 own cc nL ret) {a ci : Nat} {C : String} {T : u_T} {N : Nat} {ty0 : Nat → FieldType} {fs : List Value} (hE : cE ci C T N ty0) (hG : G a = some (.inr (ci, fs))) : rcv D b0 s G a C := fun H locs hg => va_recv hc.2.2.2.2.2.2.2.2.1.1 (vP1 (hg.1 a _ hG).1) hE.1 (q0 := 0) rfl
theorem rc_s (hc : cx p s m args meth c D X b0 own cc nL ret) {k : Nat} (hk : k < 8) : rcv D b0 s G (X (10 + k)) "java/lang/String" := fun H locs hg => by
  obtain ⟨cell, h1, h2, h3, -⟩ := (hc.2.2.2.2.2.2.2.2.2.2.1.1 k hk).1.kept hg.2.2.1
  exact ⟨cell, h1, h2, h3⟩
/-- what comes back from a call -/
theorem goI {P : Int → gM → Prop} (k : ∀ (r : Int) (G' : gM), P r G' → GW p l e R s m args below meth c D b0 nL Q G' bc bs pc lv (.int (iI r) :: st)) : ∀ (v : Option Value) (G' : gM), pI P v G' → GW p l e R s m args below meth c D b0 nL Q G' bc bs pc lv (v.toList ++ st) := by
  rintro v G' ⟨r, rfl, h⟩
  exact k r G' h
theorem goJ {P : Int → gM → Prop} (k : ∀ (r : Int) (G' : gM), P r G' → GW p l e R s m args below meth c D b0 nL Q G' bc bs pc lv (.long (jI r) :: st)) : ∀ (v : Option Value) (G' : gM), pJ P v G' → GW p l e R s m args below meth c D b0 nL Q G' bc bs pc lv (v.toList ++ st) := by
  rintro v G' ⟨r, rfl, h⟩
  exact k r G' h
theorem goA {P : Nat → gM → Prop} (k : ∀ (a : Nat) (G' : gM), P a G' → GW p l e R s m args below meth c D b0 nL Q G' bc bs pc lv (.ref a :: st)) : ∀ (v : Option Value) (G' : gM), pA P v G' → GW p l e R s m args below meth c D b0 nL Q G' bc bs pc lv (v.toList ++ st) := by
  rintro v G' ⟨r, rfl, h⟩
  exact k r G' h
theorem goN {P : Option Nat → gM → Prop} (k : ∀ (x : Option Nat) (G' : gM), P x G' → GW p l e R s m args below meth c D b0 nL Q G' bc bs pc lv (va_rf x :: st)) : ∀ (v : Option Value) (G' : gM), pN P v G' → GW p l e R s m args below meth c D b0 nL Q G' bc bs pc lv (v.toList ++ st) := by
  rintro v G' ⟨r, rfl, h⟩
  exact k r G' h
theorem goV {P : gM → Prop} (k : ∀ (G' : gM), P G' → GW p l e R s m args below meth c D b0 nL Q G' bc bs pc lv st) : ∀ (v : Option Value) (G' : gM), pV P v G' → GW p l e R s m args below meth c D b0 nL Q G' bc bs pc lv (v.toList ++ st) := by
  rintro v G' ⟨rfl, h⟩
  exact k G' h
theorem gw_go {post : Option Value → gM → Prop} {rest st0 : List Value} {a : Array Value} {mc ms bc' bs' : Nat} (hb1 : mc + bc' ≤ bc) (hb2 : ms + bs' ≤ bs) (hr : ∀ (H : Heap) (locs : List Loc) (ls : Array Slot) (cells slots : Nat), cells + bc ≤ R.cells → slots + bs ≤ R.slots → gs D b0 s G H locs → lvo ls nL lv → va_Run p l e R s m args below meth c H locs cells slots mc ms (F0 m pc ls st0) rest (gQ D b0 post a) (bz b0))
    (kk : ∀ (v : Option Value) (G' : gM), post v G' → GW p l e R s m args below meth c D b0 nL Q G' bc' bs' (pc + 3) lv (v.toList ++ rest)) : GW p l e R s m args below meth c D b0 nL Q G bc bs pc lv st0 := by
  intro H locs ls cells slots h1 h2 hg hl T hT XX
  obtain ⟨v, st₀, t, T', L, h0, X', hL, e1, e2, ⟨⟨v', G', hv, hp, hgh⟩, hz, hk⟩, st⟩ := hr H locs ls cells slots h1 h2 hg hl T hT XX
  cases hv
  rw [h0] at hz hk
  have hS := hg.2
  obtain ⟨t2, a1, b1⟩ := kk v G' hp T'.heap (locs ++ L) ls (cells + mc) (slots + ms) (by omega) (by omega) ⟨by rw [e1]; exact hgh, ⟨Nat.le_trans hS.1 (by rw [e1]; exact hz), fun q h1 h2 => by rw [e1, hk q (Nat.lt_of_lt_of_le h1 hS.1) h2]; exact hS.2.1 q h1 h2, fun q hq => by
      rcases List.mem_append.mp hq with h | h
      · exact hS.2.2 q h
      · exact hL q h⟩⟩ hl T' rfl X'
  exact ⟨t2, st t2 a1, b1⟩
theorem gw_go5 {post : Option Value → gM → Prop} {rest st0 : List Value} {a : Array Value} {mc ms bc' bs' : Nat} (hb1 : mc + bc' ≤ bc) (hb2 : ms + bs' ≤ bs) (hr : ∀ (H : Heap) (locs : List Loc) (ls : Array Slot) (cells slots : Nat), cells + bc ≤ R.cells → slots + bs ≤ R.slots → gs D b0 s G H locs → lvo ls nL lv → va_Run5 p l e R s m args below meth c H locs cells slots mc ms (F0 m pc ls st0) rest (gQ D b0 post a) (bz b0))
    (kk : ∀ (v : Option Value) (G' : gM), post v G' → GW p l e R s m args below meth c D b0 nL Q G' bc' bs' (pc + 5) lv (v.toList ++ rest)) : GW p l e R s m args below meth c D b0 nL Q G bc bs pc lv st0 := by
  intro H locs ls cells slots h1 h2 hg hl T hT XX
  obtain ⟨v, st₀, t, T', L, h0, X', hL, e1, e2, ⟨⟨v', G', hv, hp, hgh⟩, hz, hk⟩, st⟩ := hr H locs ls cells slots h1 h2 hg hl T hT XX
  cases hv
  rw [h0] at hz hk
  have hS := hg.2
  obtain ⟨t2, a1, b1⟩ := kk v G' hp T'.heap (locs ++ L) ls (cells + mc) (slots + ms) (by omega) (by omega) ⟨by rw [e1]; exact hgh, ⟨Nat.le_trans hS.1 (by rw [e1]; exact hz), fun q h1 h2 => by rw [e1, hk q (Nat.lt_of_lt_of_le h1 hS.1) h2]; exact hS.2.1 q h1 h2, fun q hq => by
      rcases List.mem_append.mp hq with h | h
      · exact hS.2.2 q h
      · exact hL q h⟩⟩ hl T' rfl X'
  exact ⟨t2, st t2 a1, b1⟩
theorem gpv (hc : cx p s m args meth c D X b0 own cc nL ret) {G : gM} {H : Heap} {locs : List Loc} {av : List Value} (hg : gs D b0 s G H locs) (U : State) (hU : U.heap = H) (hW : s.WarmedH U.vm) : gPc D X b0 av G av.toArray U := ⟨rfl, kw.go hc.2.2.2.2.2.2.2 hg.2 hW hU, by rw [hU]; exact hg.1⟩
/-- what a method's words say of it: inherited, inherited private, super, through an interface -/
def mU (C : String) (y : MethodName) (b : ByteArray) (L : Nat) (r : Option FieldType) (n : Nat) : Prop := (y.cls ≠ "java/lang/invoke/MethodHandle" ∧ y.cls ≠ "java/lang/invoke/VarHandle" ∧ (parseMethodDescriptor y.desc).map (fun d => d.parameters.length) = some n) ∧ Cond.sameMethod y.cls y.cls y.name y.desc ∈ lw_all ∧ Cond.selects C y y ∈ lw_all ∧ Cond.instanceMethod y ∈ lw_all ∧ Cond.initialized y.cls ∈ lw_all ∧ Cond.code y b L r ∈ lw_all
def mP (y : MethodName) (b : ByteArray) (L : Nat) (r : Option FieldType) (n : Nat) : Prop := (y.cls ≠ "java/lang/invoke/MethodHandle" ∧ y.cls ≠ "java/lang/invoke/VarHandle" ∧ (parseMethodDescriptor y.desc).map (fun d => d.parameters.length) = some n) ∧ Cond.sameMethod y.cls y.cls y.name y.desc ∈ lw_all ∧ Cond.privateMethod y ∈ lw_tbl ∧ Cond.instanceMethod y ∈ lw_all ∧ Cond.initialized y.cls ∈ lw_all ∧ Cond.code y b L r ∈ lw_all
def mSU (y : MethodName) (b : ByteArray) (L : Nat) (r : Option FieldType) (n : Nat) : Prop := (y.name ≠ "<init>" ∧ (parseMethodDescriptor y.desc).map (fun d => d.parameters.length) = some n) ∧ Cond.sameMethod y.cls y.cls y.name y.desc ∈ lw_all ∧ Cond.instanceMethod y ∈ lw_all ∧ Cond.initialized y.cls ∈ lw_all ∧ Cond.code y b L r ∈ lw_all
def mF (C : String) (x y : MethodName) (b : ByteArray) (L : Nat) (r : Option FieldType) (n : Nat) : Prop := (x.cls ≠ "java/lang/invoke/MethodHandle" ∧ x.cls ≠ "java/lang/invoke/VarHandle" ∧ (parseMethodDescriptor x.desc).map (fun d => d.parameters.length) = some n) ∧ Cond.selects C x y ∈ lw_all ∧ Cond.instanceMethod y ∈ lw_all ∧ Cond.initialized y.cls ∈ lw_all ∧ Cond.code y b L r ∈ lw_all ∧
  Cond.declares x ∈ lw_tbl ∧ Cond.interfaceMethod x.cls x.cls x.name x.desc ∈ lw_tbl ∧ Cond.publicMethod y ∈ lw_tbl ∧ Cond.unhidden C x.name x.desc ∈ lw_tbl ∧ Cond.castable C x.cls ∈ lw_tbl ∧ rideW (Cond.interfaceMethod x.cls x.cls x.name x.desc) = true
theorem CUp {R : Room} {s : State} {args : Array Value} {own C : String} {index maxL n : Nat} {y : MethodName} {bytes : ByteArray} {ret : Option FieldType} {rm : Room} (ht : ∀ w ∈ lw_all, w.before args s = true) (hlink : Cond.methodLink own index y ∈ lw_all) (hsame : Cond.sameMethod y.cls y.cls y.name y.desc ∈ lw_all) (hsel : (Cond.selects C y y).before args s = true) (hinst : Cond.instanceMethod y ∈ lw_all) (hini : Cond.initialized y.cls ∈ lw_all) (hcode : Cond.code y bytes maxL ret ∈ lw_all)
    (hd : y.cls ≠ "java/lang/invoke/MethodHandle" ∧ y.cls ≠ "java/lang/invoke/VarHandle" ∧ (parseMethodDescriptor y.desc).map (fun d => d.parameters.length) = some n) (hR : rm.frames + 1 ≤ R.frames ∧ 8 + (maxL + 11) + rm.locals ≤ R.locals) : va_CU R s args own C y.cls index y y bytes maxL ret (ws_ y bytes maxL ret) rm rm.cells rm.slots n := by
  refine ⟨⟨rfl, rfl, hR.1, hR.2, pay_in ht (lw_meth hcode), List.mem_cons_self⟩, ht _ hcode, ht _ hini, ⟨hd.1, hd.2.1⟩, fun sig h => ?_, ht _ hlink, ht _ hsame, va_Decl.of (ht _ hinst) (ht _ hcode), hsel, ht _ hinst⟩
  have h2 := hd.2.2
  rw [h] at h2
  exact (Option.some.inj h2).symm
theorem gw_callV (hc : cx p s m args meth c D X b0 own cc nL ret) {y : MethodName} {bytes : ByteArray} {maxL n index : Nat} {ret2 : Option FieldType} {rm : Room} {As st0 : List Value} {post : Option Value → gM → Prop} {a : Nat} {C : String} (d : decode cc pc = .ok (.invokevirtual index, 3)) (hq : pc + 3 = q) (hlink : Cond.methodLink own index y ∈ lw_all) (hm : mV C y bytes maxL ret2 n) (hrc : rcv D b0 s G a C) (hn : As.length = n) (hst : st0 = As.reverse ++ .ref a :: st) (hM : gMet l D X b0 y bytes maxL ret2 rm (.ref a :: As) G post) (hR : rm.frames + 1 ≤ R.frames ∧ 8 + (maxL + 11) + rm.locals ≤ R.locals) (hw8 : (st.map fun v => v.category).sum ≤ 8) {bc' bs' : Nat} (hb1 : rm.cells + bc' ≤ bc) (hb2 : rm.slots + bs' ≤ bs) (kk : ∀ (v : Option Value) (G' : gM), post v G' → GW p l e R s m args below meth c D b0 nL Q G' bc' bs' q lv (v.toList ++ st)) : GW p l e R s m args below meth c D b0 nL Q G bc bs pc lv st0 := by
  subst hq
  subst hst
  refine gw_go (a := #[]) hb1 hb2 (fun H locs ls cells slots h1 h2 hg hl => ?_) kk
  exact va_runV (As := As) (rest := st) ⟨hc.1, hc.2.1, hc.2.2.1, hc.2.2.2.1, hc.2.2.2.2.1⟩ hM (cwV n hc.2.2.2.2.1 (lw_V hlink hm.2.1 hm.2.2.1 hm.2.2.2.1 hm.2.2.2.2) rfl rfl rfl hm.1 hR) ⟨gPc_blind, hrc H locs hg, gpv hc hg⟩ rfl hn (hl.1) rfl (lv_room hw8) d ⟨by omega, by omega⟩
theorem gw_callS (hc : cx p s m args meth c D X b0 own cc nL ret) {y : MethodName} {bytes : ByteArray} {maxL n index : Nat} {ret2 : Option FieldType} {rm : Room} {As st0 : List Value} {post : Option Value → gM → Prop} (d : decode cc pc = .ok (.invokestatic index, 3)) (hq : pc + 3 = q) (hlink : Cond.methodLink own index y ∈ lw_all) (hm : mS y bytes maxL ret2 n) (hn : As.length = n) (hst : st0 = As.reverse ++ st) (hM : gMet l D X b0 y bytes maxL ret2 rm As G post) (hR : rm.frames + 1 ≤ R.frames ∧ 8 + (maxL + 11) + rm.locals ≤ R.locals) (hw8 : (st.map fun v => v.category).sum ≤ 8) {bc' bs' : Nat} (hb1 : rm.cells + bc' ≤ bc) (hb2 : rm.slots + bs' ≤ bs) (kk : ∀ (v : Option Value) (G' : gM), post v G' → GW p l e R s m args below meth c D b0 nL Q G' bc' bs' q lv (v.toList ++ st)) : GW p l e R s m args below meth c D b0 nL Q G bc bs pc lv st0 := by
  subst hq
  subst hst
  refine gw_go (a := #[]) hb1 hb2 (fun H locs ls cells slots h1 h2 hg hl => ?_) kk
  exact va_runS (As := As) (rest := st) ⟨hc.1, hc.2.1, hc.2.2.1, hc.2.2.2.1, hc.2.2.2.2.1⟩ hM (va_cwS n hc.2.2.2.2.1 (lw_S hlink hm.2.1 hm.2.2.1 hm.2.2.2) rfl rfl rfl hm.1 hR) ⟨gPc_blind, gpv hc hg⟩ rfl hn (hl.1) rfl (lv_room hw8) d ⟨by omega, by omega⟩
theorem gw_callI (hc : cx p s m args meth c D X b0 own cc nL ret) {y : MethodName} {bytes : ByteArray} {maxL n index : Nat} {rm : Room} {As st0 : List Value} {post : Option Value → gM → Prop} {a : Nat} (d : decode cc pc = .ok (.invokespecial index, 3)) (hq : pc + 3 = q) (hlink : Cond.methodLink own index y ∈ lw_all) (hm : mI y bytes maxL n) (hn : As.length = n) (hst : st0 = As.reverse ++ .ref a :: st) (hM : gMet l D X b0 y bytes maxL none rm (.ref a :: As) G post) (hR : rm.frames + 1 ≤ R.frames ∧ 8 + (maxL + 11) + rm.locals ≤ R.locals) (hw8 : (st.map fun v => v.category).sum ≤ 8) {bc' bs' : Nat} (hb1 : rm.cells + bc' ≤ bc) (hb2 : rm.slots + bs' ≤ bs) (kk : ∀ (v : Option Value) (G' : gM), post v G' → GW p l e R s m args below meth c D b0 nL Q G' bc' bs' q lv (v.toList ++ st)) : GW p l e R s m args below meth c D b0 nL Q G bc bs pc lv st0 := by
  subst hq
  subst hst
  refine gw_go (a := #[]) hb1 hb2 (fun H locs ls cells slots h1 h2 hg hl => ?_) kk
  have hw := hc.2.2.2.2.1
  exact va_runI (As := As) (rest := st) ⟨hc.1, hc.2.1, hc.2.2.1, hc.2.2.2.1, hc.2.2.2.2.1⟩ hM (cwI n hw (lw_meth hm.2.2.2) rfl rfl rfl (hw _ hm.2.2.1) (hw _ hlink) (hw _ hm.2.1) hm.1.1 hm.1.2 hR) ⟨gPc_blind, gpv hc hg⟩ rfl hn (hl.1) rfl (lv_room hw8) d ⟨by omega, by omega⟩
theorem gw_callIN (hc : cx p s m args meth c D X b0 own cc nL ret) {y : MethodName} {bytes : ByteArray} {maxL n index : Nat} {rm : Room} {As st0 : List Value} {post : Option Value → gM → Prop} {a : Nat} {host : String} (d : decode cc pc = .ok (.invokespecial index, 3)) (hq : pc + 3 = q) (hlink : Cond.methodLinkNest own index y host ∈ lw_tbl) (hm : mI y bytes maxL n) (hn : As.length = n) (hst : st0 = As.reverse ++ .ref a :: st) (hM : gMet l D X b0 y bytes maxL none rm (.ref a :: As) G post) (hR : rm.frames + 1 ≤ R.frames ∧ 8 + (maxL + 11) + rm.locals ≤ R.locals) (hw8 : (st.map fun v => v.category).sum ≤ 8) {bc' bs' : Nat} (hb1 : rm.cells + bc' ≤ bc) (hb2 : rm.slots + bs' ≤ bs) (kk : ∀ (v : Option Value) (G' : gM), post v G' → GW p l e R s m args below meth c D b0 nL Q G' bc' bs' q lv (v.toList ++ st)) : GW p l e R s m args below meth c D b0 nL Q G bc bs pc lv st0 := by
  subst hq
  subst hst
  refine gw_go (a := #[]) hb1 hb2 (fun H locs ls cells slots h1 h2 hg hl => ?_) kk
  have hw := hc.2.2.2.2.1
  exact va_runIN (As := As) (rest := st) ⟨hc.1, hc.2.1, hc.2.2.1, hc.2.2.2.1, hc.2.2.2.2.1⟩ hM ⟨va_cnB n hw (lw_meth hm.2.2.2) rfl rfl rfl (hc.2.2.2.2.2.2.2.2.1.2 _ hlink rfl) (hw _ hm.2.2.1) hm.1.2 hR, hm.1.1, hw _ hm.2.1⟩ ⟨gPc_blind, gpv hc hg⟩ rfl hn (hl.1) rfl (lv_room hw8) d ⟨by omega, by omega⟩
theorem gw_callSN (hc : cx p s m args meth c D X b0 own cc nL ret) {y : MethodName} {bytes : ByteArray} {maxL n index : Nat} {ret2 : Option FieldType} {rm : Room} {As st0 : List Value} {post : Option Value → gM → Prop} {host : String} (d : decode cc pc = .ok (.invokestatic index, 3)) (hq : pc + 3 = q) (hlink : Cond.methodLinkNest own index y host ∈ lw_tbl) (hm : mS y bytes maxL ret2 n) (hn : As.length = n) (hst : st0 = As.reverse ++ st) (hM : gMet l D X b0 y bytes maxL ret2 rm As G post) (hR : rm.frames + 1 ≤ R.frames ∧ 8 + (maxL + 11) + rm.locals ≤ R.locals) (hw8 : (st.map fun v => v.category).sum ≤ 8) {bc' bs' : Nat} (hb1 : rm.cells + bc' ≤ bc) (hb2 : rm.slots + bs' ≤ bs) (kk : ∀ (v : Option Value) (G' : gM), post v G' → GW p l e R s m args below meth c D b0 nL Q G' bc' bs' q lv (v.toList ++ st)) : GW p l e R s m args below meth c D b0 nL Q G bc bs pc lv st0 := by
  subst hq
  subst hst
  refine gw_go (a := #[]) hb1 hb2 (fun H locs ls cells slots h1 h2 hg hl => ?_) kk
  have hw := hc.2.2.2.2.1
  exact va_runSN (As := As) (rest := st) ⟨hc.1, hc.2.1, hc.2.2.1, hc.2.2.2.1, hc.2.2.2.2.1⟩ hM ⟨va_cnB n hw (lw_meth hm.2.2.2) rfl rfl rfl (hc.2.2.2.2.2.2.2.2.1.2 _ hlink rfl) (hw _ hm.2.2.1) hm.1 hR, hw _ hm.2.1, trivial⟩ ⟨gPc_blind, gpv hc hg⟩ rfl hn (hl.1) rfl (lv_room hw8) d ⟨by omega, by omega⟩
theorem gw_callU (hc : cx p s m args meth c D X b0 own cc nL ret) {y : MethodName} {bytes : ByteArray} {maxL n index : Nat} {ret2 : Option FieldType} {rm : Room} {As st0 : List Value} {post : Option Value → gM → Prop} {a : Nat} {C : String} (d : decode cc pc = .ok (.invokevirtual index, 3)) (hq : pc + 3 = q) (hlink : Cond.methodLink own index y ∈ lw_all) (hm : mU C y bytes maxL ret2 n) (hn : As.length = n) (hst : st0 = As.reverse ++ .ref a :: st) (hM : gMet l D X b0 y bytes maxL ret2 rm (.ref a :: As) G post) (hrc : rcv D b0 s G a C) (hR : rm.frames + 1 ≤ R.frames ∧ 8 + (maxL + 11) + rm.locals ≤ R.locals) (hw8 : (st.map fun v => v.category).sum ≤ 8) {bc' bs' : Nat} (hb1 : rm.cells + bc' ≤ bc) (hb2 : rm.slots + bs' ≤ bs) (kk : ∀ (v : Option Value) (G' : gM), post v G' → GW p l e R s m args below meth c D b0 nL Q G' bc' bs' q lv (v.toList ++ st)) : GW p l e R s m args below meth c D b0 nL Q G bc bs pc lv st0 := by
  subst hq
  subst hst
  refine gw_go (a := #[]) hb1 hb2 (fun H locs ls cells slots h1 h2 hg hl => ?_) kk
  have hw := hc.2.2.2.2.1
  exact va_runU (As := As) (rest := st) (x := y) (owner := y.cls) ⟨hc.1, hc.2.1, hc.2.2.1, hc.2.2.2.1, hc.2.2.2.2.1⟩ hM (va_cwU n hw (lw_app (fun w hw => by simp only [List.mem_cons, List.not_mem_nil, or_false] at hw; rcases hw with e | e | e | e | e <;> rw [e]; exact hlink; exact hm.2.1; exact hm.2.2.1; exact hm.2.2.2.1; exact hm.2.2.2.2.1) (lw_meth hm.2.2.2.2.2)) rfl rfl rfl rfl hm.1 hR) ⟨gPc_blind, hrc H locs hg, gpv hc hg⟩ rfl hn (hl.1) rfl (lv_room hw8) d ⟨by omega, by omega⟩
theorem gw_callUP (hc : cx p s m args meth c D X b0 own cc nL ret) {y : MethodName} {bytes : ByteArray} {maxL n index : Nat} {ret2 : Option FieldType} {rm : Room} {As st0 : List Value} {post : Option Value → gM → Prop} {a : Nat} {C : String} (d : decode cc pc = .ok (.invokevirtual index, 3)) (hq : pc + 3 = q) (hlink : Cond.methodLink own index y ∈ lw_all) (hm : mP y bytes maxL ret2 n) (hn : As.length = n) (hst : st0 = As.reverse ++ .ref a :: st) (hM : gMet l D X b0 y bytes maxL ret2 rm (.ref a :: As) G post) (hrc : rcv D b0 s G a C) (hR : rm.frames + 1 ≤ R.frames ∧ 8 + (maxL + 11) + rm.locals ≤ R.locals) (hw8 : (st.map fun v => v.category).sum ≤ 8) {bc' bs' : Nat} (hb1 : rm.cells + bc' ≤ bc) (hb2 : rm.slots + bs' ≤ bs) (kk : ∀ (v : Option Value) (G' : gM), post v G' → GW p l e R s m args below meth c D b0 nL Q G' bc' bs' q lv (v.toList ++ st)) : GW p l e R s m args below meth c D b0 nL Q G bc bs pc lv st0 := by
  subst hq
  subst hst
  refine gw_go (a := #[]) hb1 hb2 (fun H locs ls cells slots h1 h2 hg hl => ?_) kk
  have hw := hc.2.2.2.2.1
  obtain ⟨hd, hsame, hpriv, hinst, hini, hcode⟩ := hm
  have hsel : (Cond.selects C y y).before args s = true := by
    obtain ⟨cellB, -, -, hcB⟩ := hrc H locs hg
    obtain ⟨cn, ck, r1, hcn, hck, hni, -, -⟩ := Cond.sameMethod_found (hw _ hsame)
    obtain ⟨mk, methM, hnamed, hmethM, -, -⟩ := Cond.instanceMethod_spec (hw _ hinst)
    have hfound : s.methodFound? y.cls y.name y.desc = some mk := State.methodFound?_of_named hnamed ⟨hd.1, hd.2.1⟩
    have hcls : mk.cls = cn := Option.some.inj ((findClass_of_methodNamed hnamed).symm.trans hcn)
    have hsel : selectMethod {} s.vm cellB.cls mk = .method mk := selectMethod_private hmethM (Cond.privateMethod_at (hc.2.2.2.2.2.2.2.2.1.2 _ hpriv rfl) mk methM hnamed hmethM)
    simp only [Cond.before, Cond.holds, Cond.value, hcB, hfound, hnamed, hsel, hcls, hck]
    simp; exact hni
  have ok : ∀ w ∈ ([Cond.methodLink own index y, Cond.sameMethod y.cls y.cls y.name y.desc, Cond.instanceMethod y, Cond.initialized y.cls, Cond.code y bytes maxL ret2] : List Cond), w ∈ lw_all := fun w hw => by simp only [List.mem_cons, List.not_mem_nil, or_false] at hw; rcases hw with e | e | e | e | e <;> rw [e] <;> assumption
  exact va_runU (As := As) (rest := st) (x := y) (owner := y.cls) ⟨hc.1, hc.2.1, hc.2.2.1, hc.2.2.2.1, hc.2.2.2.2.1⟩ hM (CUp hw hlink hsame hsel hinst hini hcode hd hR) ⟨gPc_blind, hrc H locs hg, gpv hc hg⟩ rfl hn (hl.1) rfl (lv_room hw8) d ⟨by omega, by omega⟩
theorem gw_callSU (hc : cx p s m args meth c D X b0 own cc nL ret) {y : MethodName} {bytes : ByteArray} {maxL n index : Nat} {ret2 : Option FieldType} {rm : Room} {As st0 : List Value} {post : Option Value → gM → Prop} {a ci N : Nat} {C : String} {T : u_T} {ty0 : Nat → FieldType} (d : decode cc pc = .ok (.invokespecial index, 3)) (hq : pc + 3 = q) (hE : cE ci C T N ty0) (hlink : Cond.methodLink own index y ∈ lw_all) (hsup : Cond.superclass own y.cls ∈ lw_all) (hm : mSU y bytes maxL ret2 n) (hn : As.length = n) (hst : st0 = As.reverse ++ .ref a :: st) (hM : gMet l D X b0 y bytes maxL ret2 rm (.ref a :: As) G post) (hrc : rcv D b0 s G a C) (hR : rm.frames + 1 ≤ R.frames ∧ 8 + (maxL + 11) + rm.locals ≤ R.locals) (hw8 : (st.map fun v => v.category).sum ≤ 8) {bc' bs' : Nat} (hb1 : rm.cells + bc' ≤ bc) (hb2 : rm.slots + bs' ≤ bs) (kk : ∀ (v : Option Value) (G' : gM), post v G' → GW p l e R s m args below meth c D b0 nL Q G' bc' bs' q lv (v.toList ++ st)) : GW p l e R s m args below meth c D b0 nL Q G bc bs pc lv st0 := by
  subst hq
  subst hst
  refine gw_go (a := #[]) hb1 hb2 (fun H locs ls cells slots h1 h2 hg hl => ?_) kk
  have hw := hc.2.2.2.2.1
  exact va_runSU (As := As) (rest := st) (hc.2.2.2.2.2.2.2.2.1.1.1 ci _ hE.1).2 ⟨hc.1, hc.2.1, hc.2.2.1, hc.2.2.2.1, hc.2.2.2.2.1⟩ hM (va_cwSU n hw (lw_app (fun w hw => by simp only [List.mem_cons, List.not_mem_nil, or_false] at hw; rcases hw with e | e | e | e | e <;> rw [e]; exact hlink; exact hm.2.1; exact hsup; exact hm.2.2.1; exact hm.2.2.2.1) (lw_meth hm.2.2.2.2)) rfl rfl rfl hm.1 hR) ⟨gPc_blind, hrc H locs hg, gpv hc hg⟩ rfl hn (hl.1) rfl (lv_room hw8) d ⟨by omega, by omega⟩
theorem gw_callF (hc : cx p s m args meth c D X b0 own cc nL ret) {y : MethodName} {bytes : ByteArray} {maxL n index : Nat} {ret2 : Option FieldType} {rm : Room} {As st0 : List Value} {post : Option Value → gM → Prop} {x : MethodName} {a ci N count : Nat} {C : String} {T : u_T} {ty0 : Nat → FieldType} (d : decode cc pc = .ok (.invokeinterface index count, 5)) (hq : pc + 5 = q) (hE : cE ci C T N ty0) (hlink : Cond.methodLink own index x ∈ lw_all) (hm : mF C x y bytes maxL ret2 n) (hn : As.length = n) (hst : st0 = As.reverse ++ .ref a :: st) (hM : gMet l D X b0 y bytes maxL ret2 rm (.ref a :: As) G post) (hrc : rcv D b0 s G a C) (hR : rm.frames + 1 ≤ R.frames ∧ 8 + (maxL + 11) + rm.locals ≤ R.locals) (hw8 : (st.map fun v => v.category).sum ≤ 8) {bc' bs' : Nat} (hb1 : rm.cells + bc' ≤ bc) (hb2 : rm.slots + bs' ≤ bs) (kk : ∀ (v : Option Value) (G' : gM), post v G' → GW p l e R s m args below meth c D b0 nL Q G' bc' bs' q lv (v.toList ++ st)) : GW p l e R s m args below meth c D b0 nL Q G bc bs pc lv st0 := by
  subst hq
  subst hst
  refine gw_go5 (a := #[]) hb1 hb2 (fun H locs ls cells slots h1 h2 hg hl => ?_) kk
  have hw := hc.2.2.2.2.1
  have hN := hc.2.2.2.2.2.2.2.2.1.2
  exact va_runF (As := As) (rest := st) (hc.2.2.2.2.2.2.2.2.1.1.1 ci _ hE.1).2 ⟨hc.1, hc.2.1, hc.2.2.1, hc.2.2.2.1, hc.2.2.2.2.1⟩ hM (va_cwF n hw (lw_app (fun w hw => by simp only [List.mem_cons, List.not_mem_nil, or_false] at hw; rcases hw with e | e | e | e <;> rw [e]; exact hlink; exact hm.2.1; exact hm.2.2.1; exact hm.2.2.2.1) (lw_meth hm.2.2.2.2.1)) rfl rfl rfl ⟨hN _ hm.2.2.2.2.2.1 rfl, hN _ hm.2.2.2.2.2.2.1 hm.2.2.2.2.2.2.2.2.2.2, hN _ hm.2.2.2.2.2.2.2.1 rfl, hN _ hm.2.2.2.2.2.2.2.2.1 rfl, hN _ hm.2.2.2.2.2.2.2.2.2.1 rfl⟩ hm.1 hR) ⟨gPc_blind, hrc H locs hg, gpv hc hg⟩ rfl hn (hl.1) rfl (lv_room hw8) d ⟨by omega, by omega⟩
theorem gw_gets (hc : cx p s m args meth c D X b0 own cc nL ret) {C n dd ref : String} {v : Value} {index : Nat} (d : decode cc pc = .ok (.getstatic index, 3)) (hq : pc + 3 = q) (hlink : Cond.fieldLink own index ref n dd ∈ lw_all) (hZ : va_Z C n dd v (bz b0) s s.heap) (hsame : ∀ x, s.fieldFound? C n dd = some x → s.fieldFound? ref n dd = some x) (kk : GW p l e R s m args below meth c D b0 nL Q G bc bs q lv (v :: st)) : GW p l e R s m args below meth c D b0 nL Q G bc bs pc lv st := by
  subst hq
  intro H locs ls cells slots h1 h2 hg hl
  exact va_gets hc.1 hc.2.1 hZ hg.2 hc.2.2.2.1 (hc.2.2.2.2.1 _ hlink) hsame d (kk H locs ls cells slots h1 h2 hg hl)
theorem gw_tald (hc : cx p s m args meth c D X b0 own cc nL ret) {t N : Nat} {f : Int → Int} {z : Int} (d : decode cc pc = .ok (.iaload, 1)) (hq : pc + 1 = q) (hT : va_T .int t N (fun j => .int (iI (f (j : Int)))) (bz b0) s s.heap) (hz : 0 ≤ z ∧ z < N) (hn : z < 2147483648) (kk : GW p l e R s m args below meth c D b0 nL Q G bc bs q lv (.int (iI (f z)) :: st)) : GW p l e R s m args below meth c D b0 nL Q G bc bs pc lv (.int (iI z) :: .ref t :: st) := by
  subst hq
  intro H locs ls cells slots h1 h2 hg hl
  exact va_ti hc.1 hc.2.1 hT hg.2 (iI_in hz.1 hz.2 hn) (by rw [iI_clamp hz.1 hn]) d (kk H locs ls cells slots h1 h2 hg hl)
theorem gw_tbld (hc : cx p s m args meth c D X b0 own cc nL ret) {t N : Nat} {f : Int → Int} {z : Int} (d : decode cc pc = .ok (.baload, 1)) (hq : pc + 1 = q) (hT : va_T .byte t N (fun j => .int (iI (f (j : Int)))) (bz b0) s s.heap) (hz : 0 ≤ z ∧ z < N) (hn : z < 2147483648) (kk : GW p l e R s m args below meth c D b0 nL Q G bc bs q lv (.int (iI (f z)) :: st)) : GW p l e R s m args below meth c D b0 nL Q G bc bs pc lv (.int (iI z) :: .ref t :: st) := by
  subst hq
  intro H locs ls cells slots h1 h2 hg hl
  exact va_tb hc.1 hc.2.1 hT hg.2 (iI_in hz.1 hz.2 hn) (by rw [iI_clamp hz.1 hn]) d (kk H locs ls cells slots h1 h2 hg hl)
theorem gw_tlen (hc : cx p s m args meth c D X b0 own cc nL ret) {t N : Nat} {ty : FieldType} {f : Nat → Value} (d : decode cc pc = .ok (.arraylength, 1)) (hq : pc + 1 = q) (hT : va_T ty t N f (bz b0) s s.heap) (kk : GW p l e R s m args below meth c D b0 nL Q G bc bs q lv (.int (iI (N : Int)) :: st)) : GW p l e R s m args below meth c D b0 nL Q G bc bs pc lv (.ref t :: st) := by
  subst hq
  intro H locs ls cells slots h1 h2 hg hl
  exact va_tlen hc.1 hc.2.1 hT hg.2 iI_nat d (kk H locs ls cells slots h1 h2 hg hl)
theorem gw_getc (hc : cx p s m args meth c D X b0 own cc nL ret) {t index : Nat} {o n dd ref : String} {v : Value} (d : decode cc pc = .ok (.getfield index, 3)) (hq : pc + 3 = q) (hlink : Cond.fieldLink own index ref n dd ∈ lw_all) (hE : va_OF o n dd v t (bz b0) s s.heap) (hsame : ∀ x, s.fieldFound? o n dd = some x → s.fieldFound? ref n dd = some x) (kk : GW p l e R s m args below meth c D b0 nL Q G bc bs q lv (v :: st)) : GW p l e R s m args below meth c D b0 nL Q G bc bs pc lv (.ref t :: st) := by
  subst hq
  intro H locs ls cells slots h1 h2 hg hl
  exact vk_getf hc.1 hc.2.1 hE hg.2 hc.2.2.2.1 (hc.2.2.2.2.1 _ hlink) hsame d (kk H locs ls cells slots h1 h2 hg hl)
theorem gw_ldcS (hc : cx p s m args meth c D X b0 own cc nL ret) {index k : Nat} (d : decode cc pc = .ok (.ldc index, 2)) (hq : pc + 2 = q) (hld : (own, index, k) ∈ ldE) (kk : GW p l e R s m args below meth c D b0 nL Q G bc bs q lv (.ref (X (10 + k)) :: st)) : GW p l e R s m args below meth c D b0 nL Q G bc bs pc lv st := by
  subst hq
  intro H locs ls cells slots h1 h2 hg hl
  exact va_ldcS hc.1 hc.2.1 hc.2.2.2.1 (hc.2.2.2.2.2.2.2.2.2.2.1.2.2 _ hld) d (kk H locs ls cells slots h1 h2 hg hl)
theorem gw_cast (hc : cx p s m args meth c D X b0 own cc nL ret) {a index : Nat} {nm : String} (d : decode cc pc = .ok (.checkcast index, 3)) (hq : pc + 3 = q) (hlink : Cond.classLink own index nm ∈ lw_all) (hrc : rcv D b0 s G a nm) (kk : GW p l e R s m args below meth c D b0 nL Q G bc bs q lv (.ref a :: st)) : GW p l e R s m args below meth c D b0 nL Q G bc bs pc lv (.ref a :: st) := by
  subst hq
  intro H locs ls cells slots h1 h2 hg hl
  exact va_castE hc.1 hc.2.1 hc.2.2.2.1 (hc.2.2.2.2.1 _ hlink) (hrc H locs hg) d (kk H locs ls cells slots h1 h2 hg hl)
theorem gw_instE (hc : cx p s m args meth c D X b0 own cc nL ret) {a index : Nat} {nm : String} (d : decode cc pc = .ok (.instanceof index, 3)) (hq : pc + 3 = q) (hlink : Cond.classLink own index nm ∈ lw_all) (hrc : rcv D b0 s G a nm) (kk : GW p l e R s m args below meth c D b0 nL Q G bc bs q lv (.int (iI 1) :: st)) : GW p l e R s m args below meth c D b0 nL Q G bc bs pc lv (.ref a :: st) := by
  subst hq
  intro H locs ls cells slots h1 h2 hg hl
  exact va_instE hc.1 hc.2.1 hc.2.2.2.1 (hc.2.2.2.2.1 _ hlink) (hrc H locs hg) d (kk H locs ls cells slots h1 h2 hg hl)
end GWL
