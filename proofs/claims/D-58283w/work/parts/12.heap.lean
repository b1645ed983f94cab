/-! ===== the constant world rides ===== -/
set_option maxRecDepth 100000
theorem ride_w {s U : State} (hW : s.WarmedH U.vm) (h : ∀ w ∈ lw_tbl, rideW w = true → va_Nw w s) (w : Cond) (hw : w ∈ lw_tbl) (hr : rideW w = true) : va_Nw w U := by
  have hs := h w hw hr
  have tr : ∀ {c : Cond}, c.onTables = true → c.before #[] (s.setVm U.vm) = true → c.before #[] U = true := fun {c} hc hh => va_tabs hc (rfl : (s.setVm U.vm).vm = U.vm) hh
  cases w with
  | fieldLinkNest => exact va_Nw.warmF hW hs
  | methodLinkNest => exact va_Nw.warmM hW hs
  | castable => exact va_Nw.warmC hW hs
  | declares => exact va_Nw.warmD hW hs
  | publicMethod => exact tr rfl (by rw [Cond.publicMethod_setVm hW.alike]; exact hs)
  | privateMethod => exact tr rfl (by rw [Cond.privateMethod_setVm hW.alike]; exact hs)
  | unhidden => exact tr rfl (by rw [Cond.unhidden_setVm hW.alike]; exact hs)
  | interfaceMethod c1 c2 n d =>
    simp only [rideW, Bool.and_eq_true, decide_eq_true_eq] at hr
    obtain ⟨⟨⟨rfl, hx1⟩, hx2⟩, hd⟩ := hr
    obtain ⟨r, meth, hn, -⟩ := Cond.declares_spec (h _ hd rfl)
    exact tr rfl (by rw [Cond.interfaceMethod_setVm hW.alike hn ⟨hx1, hx2⟩]; exact hs)
  | arrayOver ty =>
    cases ty <;> first | exact va_AO.moved hW.alike hs | cases hr
  | _ => cases hr
theorem kwA.warm {D : va_G} {s U : State} (hW : s.WarmedH U.vm) (h : kwA D s) : kwA D U := ⟨h.1.moved hW.alike, ride_w hW h.2⟩
theorem kwB.go {X : Nat → Nat} {b0 : Nat} {s U : State} {H H1 : Heap} (hW : s.WarmedH U.vm) (hq : ∀ a : Nat, a < H.size → ¬ bz b0 a → H1[a]? = H[a]?) (h : kwB X b0 s H) : kwB X b0 U H1 := by
  obtain ⟨a1, a2, a3, a4, a5, a6, a7, a8, a9, b1, b2, b3, b4⟩ := h
  have hA := hW.alike
  exact ⟨(a1.kept hq).moved hA, (a2.kept hq).moved hA, (a3.kept hq).moved hA, (a4.kept hq).moved hA, (a5.kept hq).moved hA, (a6.kept hq).moved hA, (a7.kept hq).moved hA, (a8.kept hq).moved hA, (a9.kept hq).moved hA, (b1.kept hq).moved hA, (b2.kept hq).moved hA, (b3.kept hq).moved hA, b4.moved hA⟩
theorem kwC.go {X : Nat → Nat} {b0 : Nat} {s U : State} {H H1 : Heap} (hW : s.WarmedH U.vm) (hq : ∀ a : Nat, a < H.size → ¬ bz b0 a → H1[a]? = H[a]?) (h : kwC X b0 s H) : kwC X b0 U H1 := by
  obtain ⟨a1, a2, a3⟩ := h
  have hA := hW.alike
  refine ⟨fun k hk => ?_, a2, fun q hq' => (a3 q hq').warm hW⟩
  obtain ⟨x1, x2, x3, x4, x5, x6⟩ := a1 k hk
  exact ⟨(x1.kept hq).moved hA, (x2.kept hq).moved hA, (x3.kept hq).moved hA, (x4.kept hq).moved hA, (x5.kept hq).moved hA, (x6.kept hq).moved hA⟩
theorem lamAt.warm {cK : ClassId} {x : MethodName} {pc index : Nat} {σ : Lambda.Shape} {s U : State} (hW : s.WarmedH U.vm) (h : lamAt cK x pc index σ s) : lamAt cK x pc index σ U := by
  obtain ⟨m, k, cf, i0, p0, hm, hk, hcf, hfind, hsh, hmade, hcall⟩ := h
  have hA := hW.alike
  obtain ⟨k', hk', he⟩ := hA.2.2 _ _ hk
  refine ⟨m, k', cf, i0, p0, ?_, hk', by rw [he]; exact hcf, by rw [he]; exact hfind, hsh, Lambda.isMade_warmer hW hmade, ?_⟩
  · have := State.methodNamed?_setVm (s := s) hA x
    rw [hm] at this
    exact this
  · simp only [State.lambdaCallable, hA.findClass, hA.assignable, hA.superclasses, hA.declaredIn] at hcall ⊢
    exact hcall
theorem lamW.warm {cK : ClassId} {w : Cond} {s U : State} (hW : s.WarmedH U.vm) (h : lamW cK w s) : lamW cK w U := by
  unfold lamW at h ⊢
  split at h
  · exact h.warm hW
  · trivial
theorem kwD.warm {X : Nat → Nat} {s U : State} (hW : s.WarmedH U.vm) (h : kwD X s) : kwD X U := by
  obtain ⟨a1, a2, a3, a4, a5⟩ := h
  have g : ∀ {c : Cond}, (c.onTables && c.keeps) = true → va_Nw c s → va_Nw c U := fun {c} hc hh => word_at (args := #[]) (a' := #[]) hW (Or.inl hc) hh
  refine ⟨a1.warm hW, a2.warm hW, g rfl a3, g rfl a4, ?_⟩
  have hf : (s.setVm U.vm).methodFound? yRat.cls yRat.name yRat.desc = s.methodFound? yRat.cls yRat.name yRat.desc := by
    obtain ⟨cn, ck, r1, hcn, hck, hni, hf, hn1⟩ := Cond.sameMethod_found (args := #[]) a4
    obtain ⟨k2, hk2, hnm⟩ := Vm.findClass_spec hcn
    cases hck.symm.trans hk2
    exact State.methodFound?_setVm_class hW.alike hcn hck hni (fun y => by simp [signaturePolymorphic, hnm]) _ _
  have h5 : (Cond.landsInDefault "EnergyDiscs$Reader" yRat ySat).before #[] (s.setVm U.vm) = true := by rw [Cond.landsInDefault_setVm (args := #[]) hW.alike hf]; exact a5
  exact h5
theorem kw.go {D : va_G} {X : Nat → Nat} {b0 : Nat} {s U : State} {H : Heap} {locs : List Loc} (h : kw D X b0 s s.heap) (hS : va_S (bz b0) s.heap H locs) (hW : s.WarmedH U.vm) (hU : U.heap = H) : kw D X b0 U U.heap := by
  rw [hU]
  exact ⟨Nat.le_trans h.1 hS.1, h.2.1.warm hW, h.2.2.1.go hW hS.2.1, h.2.2.2.1.go hW hS.2.1, h.2.2.2.2.warm hW⟩
/-! ===== contracts ===== -/
def gQ (D : va_G) (b0 : Nat) (post : Option Value → gM → Prop) : Array Value → State → Outcome → State → Prop := fun _ st oc t => (∃ (v : Option Value) (G' : gM), oc = .returned v ∧ post v G' ∧ gh D b0 G' t.heap) ∧ va_F (bz b0) st t
def gPc (D : va_G) (X : Nat → Nat) (b0 : Nat) (av : List Value) (G : gM) : Array Value → State → Prop := va_Pc av (fun U => kw D X b0 U U.heap ∧ gh D b0 G U.heap)
def gMet (l : Launch) (D : va_G) (X : Nat → Nat) (b0 : Nat) (y : MethodName) (cc : ByteArray) (nL : Nat) (ret : Option FieldType) (rm : Room) (av : List Value) (G : gM) (post : Option Value → gM → Prop) : Prop :=
  Met l y (ws_ y cc nL ret) rm (gPc D X b0 av G) (gQ D b0 post) rm.cells rm.slots (bz b0)
/-- the answers -/
abbrev pI (P : Int → gM → Prop) : Option Value → gM → Prop := fun v G => ∃ r : Int, v = some (.int (iI r)) ∧ P r G
abbrev pJ (P : Int → gM → Prop) : Option Value → gM → Prop := fun v G => ∃ r : Int, v = some (.long (jI r)) ∧ P r G
abbrev pA (P : Nat → gM → Prop) : Option Value → gM → Prop := fun v G => ∃ a : Nat, v = some (.ref a) ∧ P a G
abbrev pN (P : Option Nat → gM → Prop) : Option Value → gM → Prop := fun v G => ∃ x : Option Nat, v = some (va_rf x) ∧ P x G
abbrev pV (P : gM → Prop) : Option Value → gM → Prop := fun v G => v = none ∧ P G
/-- rooms: d frames deep, so many cells and slots -/
abbrev rmE (d mc ms : Nat) : Room := { frames := d, cells := mc, slots := ms, locals := 48 * d }
theorem gPc_blind {D : va_G} {X : Nat → Nat} {b0 : Nat} {av : List Value} {G : gM} : FrameBlind (gPc D X b0 av G) := by
  intro a U g mk h
  obtain ⟨e, hk, hg⟩ := h
  exact ⟨e, kw.go (U := U.calling g mk a) hk va_S.rf (State.WarmedH.refl U) rfl, hg⟩
/-- what a method's words say of it: through an object, static, constructor -/
def mV (C : String) (y : MethodName) (b : ByteArray) (L : Nat) (r : Option FieldType) (n : Nat) : Prop := (y.cls = C ∧ y.cls ≠ "java/lang/invoke/MethodHandle" ∧ y.cls ≠ "java/lang/invoke/VarHandle" ∧ (parseMethodDescriptor y.desc).map (fun d => d.parameters.length) = some n) ∧ Cond.instanceMethod y ∈ lw_all ∧ Cond.selects C y y ∈ lw_all ∧ Cond.initialized C ∈ lw_all ∧ Cond.code y b L r ∈ lw_all
def mS (y : MethodName) (b : ByteArray) (L : Nat) (r : Option FieldType) (n : Nat) : Prop := (y.cls ≠ "java/lang/invoke/MethodHandle" ∧ y.cls ≠ "java/lang/invoke/VarHandle" ∧ (parseMethodDescriptor y.desc).map (fun d => d.parameters.length) = some n) ∧ Cond.static y ∈ lw_all ∧ Cond.initialized y.cls ∈ lw_all ∧ Cond.code y b L r ∈ lw_all
def mI (y : MethodName) (b : ByteArray) (L : Nat) (n : Nat) : Prop := (y.name = "<init>" ∧ y.cls ≠ "java/lang/invoke/MethodHandle" ∧ y.cls ≠ "java/lang/invoke/VarHandle" ∧ (parseMethodDescriptor y.desc).map (fun d => d.parameters.length) = some n) ∧ Cond.instanceMethod y ∈ lw_all ∧ Cond.initialized y.cls ∈ lw_all ∧ Cond.code y b L none ∈ lw_all
/-- the locals a method begins with -/
def lpad (av : List Value) (n : Nat) : List (Option Value) := (av.flatMap fun v => if v.category = 2 then [some v, none] else [some v]) ++ List.replicate (n - (lg_sl av).length) none
theorem lpad_at : ∀ (av : List Value) (k : Nat) (j : Nat) (w : Value), (av.flatMap fun v => if v.category = 2 then [some v, none] else [some v])[j]? = some (some w) → (k + j, w) ∈ lv_args k av
  | [], k, j, w, h => by simp at h
  | v :: vs, k, j, w, h => by
    rw [List.flatMap_cons] at h
    by_cases hc : v.category = 2
    · simp only [hc, if_true] at h
      simp only [lv_args, hc, if_true]
      match j, h with
      | 0, h => simp at h; subst h; exact List.mem_cons_self
      | 1, h => simp at h
      | j + 2, h =>
        have h' : (vs.flatMap fun v => if v.category = 2 then [some v, none] else [some v])[j]? = some (some w) := by simpa using h
        have := lpad_at vs (k + 2) j w h'
        rw [show k + (j + 2) = k + 2 + j by omega]
        exact List.mem_cons_of_mem _ this
    · simp only [hc, if_false] at h
      simp only [lv_args, hc, if_false]
      match j, h with
      | 0, h => simp at h; subst h; exact List.mem_cons_self
      | j + 1, h =>
        have h' : (vs.flatMap fun v => if v.category = 2 then [some v, none] else [some v])[j]? = some (some w) := by simpa using h
        have := lpad_at vs (k + 1) j w h'
        rw [show k + (j + 1) = k + 1 + j by omega]
        exact List.mem_cons_of_mem _ this
theorem lpad_len (av : List Value) : (av.flatMap fun v => if v.category = 2 then [some v, none] else [some v]).length = (lg_sl av).length := by
  induction av with
  | nil => rfl
  | cons v vs ih =>
    rw [List.flatMap_cons, List.length_append, ih]
    simp only [lg_sl, List.flatMap_cons, List.length_append]
    by_cases hc : v.category = 2 <;> simp [hc]
theorem lpad_lvo {av : List Value} {n : Nat} (h : (lg_sl av).length ≤ n) : lvo ((lg_sl av ++ List.replicate (n - (lg_sl av).length) Slot.unset).toArray) n (lpad av n) := by
  have hh := lv_entry av h
  refine lvo.of hh ?_ (fun i v hi => ?_)
  · unfold lpad
    rw [List.length_append, lpad_len, List.length_replicate]
    omega
  · unfold lpad at hi
    by_cases hl : i < (av.flatMap fun v => if v.category = 2 then [some v, none] else [some v]).length
    · rw [List.getElem?_append_left hl] at hi
      simpa using lpad_at av 0 i v hi
    · rw [List.getElem?_append_right (by omega)] at hi
      have := List.eq_of_mem_replicate (List.mem_of_getElem? hi)
      cases this
/-- a contract, out of a walk -/
theorem gm_start {l : Launch} {D : va_G} {X : Nat → Nat} {b0 : Nat} {y : MethodName} {own : String} {cc : ByteArray} {nL : Nat} {ret : Option FieldType} {rm : Room} {av : List Value} {G : gM} {post : Option Value → gM → Prop} {lv : List (Option Value)} (hy : plainName y.cls = true) (hown : y.cls = own) (hlen : (lg_sl av).length ≤ nL) (hlv : lpad av nL = lv)
    (body : ∀ (p : Program) (e : Env) (s : State) (m : MethodId) (args : Array Value) (below : List Frame) (meth : Method) (c : Code), cx p s m args meth c D X b0 own cc nL ret → meth.name = y.name → GW p l e rm s m args below meth c D b0 nL (MQ below (gQ D b0 post) args s rm.cells rm.slots (bz b0)) G rm.cells rm.slots 0 lv []) : gMet l D X b0 y cc nL ret rm av G post := by
  refine Met.ofW (cc := cc) (maxL := nL) (ret := ret) hy rfl ?_
  intro p e s m args below meth c s₁ B hml hv
  obtain ⟨rfl, hk, hgh⟩ := hv
  have hts := atoms_spec (ws := ws_ y cc nL ret) B.pre
  have hnm : meth.name = y.name := (name_of_methodNamed B.named B.method).1
  have h := body p e s m _ below meth c ⟨B.exec, B.bytes, hml, by rw [← hown]; exact findClass_of_methodNamed B.named, fun w h => hts w (List.mem_cons_of_mem _ h), B.notSynchronized, B.returns, hk⟩ hnm
  have h2 := h s.heap [] _ 0 0 (by omega) (by omega) ⟨hgh, va_S.rf⟩ (hlv ▸ lpad_lvo hlen)
  rw [lg_entry_eq]
  exact h2
/-- the same, the method's own number known -/
theorem gm_startN {l : Launch} {D : va_G} {X : Nat → Nat} {b0 : Nat} {y : MethodName} {own : String} {cc : ByteArray} {nL : Nat} {ret : Option FieldType} {rm : Room} {av : List Value} {G : gM} {post : Option Value → gM → Prop} {lv : List (Option Value)} (hy : plainName y.cls = true) (hown : y.cls = own) (hlen : (lg_sl av).length ≤ nL) (hlv : lpad av nL = lv)
    (body : ∀ (p : Program) (e : Env) (s : State) (m : MethodId) (args : Array Value) (below : List Frame) (meth : Method) (c : Code), cx p s m args meth c D X b0 own cc nL ret → meth.name = y.name → s.methodNamed? y = some m → GW p l e rm s m args below meth c D b0 nL (MQ below (gQ D b0 post) args s rm.cells rm.slots (bz b0)) G rm.cells rm.slots 0 lv []) : gMet l D X b0 y cc nL ret rm av G post := by
  refine Met.ofW (cc := cc) (maxL := nL) (ret := ret) hy rfl ?_
  intro p e s m args below meth c s₁ B hml hv
  obtain ⟨rfl, hk, hgh⟩ := hv
  have hts := atoms_spec (ws := ws_ y cc nL ret) B.pre
  have hnm : meth.name = y.name := (name_of_methodNamed B.named B.method).1
  have h := body p e s m _ below meth c ⟨B.exec, B.bytes, hml, by rw [← hown]; exact findClass_of_methodNamed B.named, fun w h => hts w (List.mem_cons_of_mem _ h), B.notSynchronized, B.returns, hk⟩ hnm B.named
  have h2 := h s.heap [] _ 0 0 (by omega) (by omega) ⟨hgh, va_S.rf⟩ (hlv ▸ lpad_lvo hlen)
  rw [lg_entry_eq]
  exact h2
theorem iI_nc {r : Int} (h1 : 0 ≤ r) (h2 : r < 65536) : narrow .char (.int (iI r)) = .int (iI r) := by
  have h := (pk_charN (q := r.toNat) (by omega)).1
  have e : nI r.toNat = iI r := by
    show Int32.ofNat r.toNat = iI r
    rw [iI_nat]
    congr 1
    omega
  rwa [e] at h
theorem q_oinst : Cond.instanceMethod objectInit ∈ lw_all := q104
theorem q_ocode : Cond.code objectInit ⟨#[0xb1]⟩ 1 none ∈ lw_all := q105
/-- a class: its place, fields, the words -/
def cE (ci : Nat) (C : String) (T : u_T) (N : Nat) (ty0 : Nat → FieldType) : Prop := clE[ci]? = some (C, T, N) ∧ (∀ w ∈ u_ws C T N, w ∈ lw_all) ∧ (∀ k, k < N → parseFieldDescriptor (T k).2.2.1 = some (ty0 k)) ∧ ∀ a, a < N → ∀ b, b < N → a ≠ b → (T a).2.1 ≠ (T b).2.1
theorem cE_ED : cE 0 "EnergyDiscs" TX0 4 tyX0 := ⟨rfl, in_X0, tyX0_ok, nmX0⟩
theorem cE_HO : cE 1 "EnergyDiscs$House" TX1 5 tyX1 := ⟨rfl, in_X1, tyX1_ok, nmX1⟩
theorem cE_MO : cE 2 "EnergyDiscsModel" TX2 7 tyX2 := ⟨rfl, in_X2, tyX2_ok, nmX2⟩
theorem cE_ME : cE 3 "EnergyDiscs$Meter" TX3 17 tyX3 := ⟨rfl, in_X3, tyX3_ok, nmX3⟩
theorem cE_LO : cE 4 "EnergyDiscs$Load" TX4 3 tyX4 := ⟨rfl, in_X4, tyX4_ok, nmX4⟩
theorem cE_RE : cE 5 "EnergyDiscs$Reader" TX5 4 tyX5 := ⟨rfl, in_X5, tyX5_ok, nmX5⟩
theorem cE_OR : cE 6 "EnergyDiscs$Order" TX7 3 tyX7 := ⟨rfl, in_X7, tyX7_ok, nmX7⟩
theorem cE_AL : cE 7 "java/util/ArrayList" TJ2 3 tyJ2 := ⟨rfl, in_J2, tyJ2_ok, nmJ2⟩
theorem cE_SB : cE 8 "java/lang/StringBuilder" TJ4 4 tyJ4 := ⟨rfl, in_J4, tyJ4_ok, nmJ4⟩
theorem cE_IT : cE 9 "java/util/ArrayList$Itr" TJ9 4 tyJ9 := ⟨rfl, in_J9, tyJ9_ok, nmJ9⟩
theorem vP1 {D : va_G} {a : Nat} {e : va_E} {H : Heap} (h : cAt D (a, e) H) (he : ∀ c n f, e ≠ .inl (c, n, .inr (.inr (.inl f))) := by intro c n f h; cases h) : va_P D clE [(a, e)] H := fun j x hj => by
  rcases j with _ | j
  · cases hj
    rcases e with ⟨c, n, f | f | f | f | f⟩ | o
    · exact h
    · exact h
    · exact absurd rfl (he c n f)
    · exact h
    · exact h
    · exact h
  · simp at hj
theorem gs_up {D : va_G} {b0 : Nat} {s : State} {G : gM} {H H' : Heap} {locs : List Loc} {a k : Nat} {e e' : va_E} (hg : gs D b0 s G H locs) (hG : G a = some e) (hat : cAt D (a, e') H') (e2 : H'.size = H.size) (e3 : ∀ q, q ≠ a → H'[q]? = H[q]?) : gs D b0 s (gup G a e') H' (locs ++ [⟨a, k⟩]) := by
  refine ⟨fun z w hz => ?_, hg.2.put e2 e3 (hg.1 a _ hG).2⟩
  by_cases hza : z = a
  · subst hza
    rw [gup_s] at hz
    cases hz
    exact ⟨hat, (hg.1 z _ hG).2⟩
  · rw [gup_n hza] at hz
    exact ⟨(hg.1 z w hz).1.kept (e3 z hza), (hg.1 z w hz).2⟩
theorem gs_none {D : va_G} {b0 : Nat} {s : State} {G : gM} {H : Heap} {locs : List Loc} (hg : gs D b0 s G H locs) : G H.size = none := by
  cases h : G H.size with
  | none => rfl
  | some e => exact absurd (hg.1 _ _ h).1.lt (Nat.lt_irrefl _)
theorem gs_new {D : va_G} {b0 : Nat} {s : State} {G : gM} {H H1 : Heap} {locs : List Loc} {e : va_E} (hg : gs D b0 s G H locs) (hb : b0 ≤ H.size) (hat : cAt D (H.size, e) H1) (z1 : H1.size = H.size + 1) (o1 : ∀ q, q < H.size → H1[q]? = H[q]?) : gs D b0 s (gup G H.size e) H1 locs := by
  refine ⟨fun z w hz => ?_, ⟨Nat.le_trans hg.2.1 (by omega), fun x h1 h2 => (o1 x (Nat.lt_of_lt_of_le h1 hg.2.1)).trans (hg.2.2.1 x h1 h2), hg.2.2.2⟩⟩
  by_cases hza : z = H.size
  · subst hza
    rw [gup_s] at hz
    cases hz
    exact ⟨hat, hb⟩
  · rw [gup_n hza] at hz
    exact ⟨(hg.1 z w hz).1.kept (o1 z (hg.1 z w hz).1.lt), (hg.1 z w hz).2⟩
theorem up_fu {α : Type} {f : Int → α} {z : Int} {x : α} {k j : Nat} (hk : (k : Int) = z) (g : α → Value) : updV (fun j : Nat => g (f (j : Int))) k (g x) j = g (fu f z x (j : Int)) := by
  unfold updV fu
  by_cases h : j = k
  · subst h; rw [if_pos rfl, if_pos hk]
  · rw [if_neg h, if_neg (by omega)]
section GWC
variable {p : Program} {l : Launch} {e : Env} {R : Room} {s : State} {m : MethodId} {args : Array Value} {below : List Frame} {meth : Method} {c : Code} {Q : State → Prop}
variable {D : va_G} {X : Nat → Nat} {b0 nL bc bs pc q : Nat} {own : String} {cc : ByteArray} {ret : Option FieldType} {G : gM} {lv lv' lv1 : List (Option Value)} {st : List Value}
theorem gw_iret {post : Option Value → gM → Prop} (hc : cx p s m args meth c D X b0 own cc nL (some .int)) {r : Int} (d : decode cc pc = .ok (.ireturn, 1)) (hpost : post (some (.int (iI r))) G) : GW p l e R s m args below meth c D b0 nL (MQ below (gQ D b0 post) args s R.cells R.slots (bz b0)) G bc bs pc lv [.int (iI r)] := by
  intro H locs ls cells slots h1 h2 hg hl
  refine W.widen (k := R.cells) (n := R.slots) (by omega) (by omega) ?_
  have hr := hc.2.2.2.2.2.2.1
  exact W.iret hc.1 hc.2.1 hr (fun t ht hW => ⟨⟨_, G, rfl, hpost, by rw [ht]; exact hg.1⟩, hg.2.F ht⟩) hg.2.2.2 d hc.2.2.2.2.2.1
theorem gw_iretX {post : Option Value → gM → Prop} (hc : cx p s m args meth c D X b0 own cc nL (some .int)) {r : Int32} (d : decode cc pc = .ok (.ireturn, 1)) (hpost : post (some (.int r)) G) : GW p l e R s m args below meth c D b0 nL (MQ below (gQ D b0 post) args s R.cells R.slots (bz b0)) G bc bs pc lv [.int r] := by
  intro H locs ls cells slots h1 h2 hg hl
  refine W.widen (k := R.cells) (n := R.slots) (by omega) (by omega) ?_
  have hr := hc.2.2.2.2.2.2.1
  exact W.iret hc.1 hc.2.1 hr (fun t ht hW => ⟨⟨_, G, rfl, hpost, by rw [ht]; exact hg.1⟩, hg.2.F ht⟩) hg.2.2.2 d hc.2.2.2.2.2.1
theorem gw_zret {post : Option Value → gM → Prop} (hc : cx p s m args meth c D X b0 own cc nL (some .boolean)) {r : Int} (h01 : r = 0 ∨ r = 1) (d : decode cc pc = .ok (.ireturn, 1)) (hpost : post (some (.int (iI r))) G) : GW p l e R s m args below meth c D b0 nL (MQ below (gQ D b0 post) args s R.cells R.slots (bz b0)) G bc bs pc lv [.int (iI r)] := by
  intro H locs ls cells slots h1 h2 hg hl
  refine W.widen (k := R.cells) (n := R.slots) (by omega) (by omega) ?_
  have hr := hc.2.2.2.2.2.2.1
  exact W.zret hc.1 hc.2.1 hr (by rcases h01 with rfl | rfl <;> rfl) (fun t ht hW => ⟨⟨_, G, rfl, hpost, by rw [ht]; exact hg.1⟩, hg.2.F ht⟩) hg.2.2.2 d hc.2.2.2.2.2.1
theorem gw_bret {post : Option Value → gM → Prop} (hc : cx p s m args meth c D X b0 own cc nL (some .byte)) {r : Int} (hn : narrow .byte (.int (iI r)) = .int (iI r)) (d : decode cc pc = .ok (.ireturn, 1)) (hpost : post (some (.int (iI r))) G) : GW p l e R s m args below meth c D b0 nL (MQ below (gQ D b0 post) args s R.cells R.slots (bz b0)) G bc bs pc lv [.int (iI r)] := by
  intro H locs ls cells slots h1 h2 hg hl
  refine W.widen (k := R.cells) (n := R.slots) (by omega) (by omega) ?_
  have hr := hc.2.2.2.2.2.2.1
  exact W.zret hc.1 hc.2.1 hr hn (fun t ht hW => ⟨⟨_, G, rfl, hpost, by rw [ht]; exact hg.1⟩, hg.2.F ht⟩) hg.2.2.2 d hc.2.2.2.2.2.1
theorem gw_cret {post : Option Value → gM → Prop} (hc : cx p s m args meth c D X b0 own cc nL (some .char)) {r : Int} (hn : 0 ≤ r ∧ r < 65536) (d : decode cc pc = .ok (.ireturn, 1)) (hpost : post (some (.int (iI r))) G) : GW p l e R s m args below meth c D b0 nL (MQ below (gQ D b0 post) args s R.cells R.slots (bz b0)) G bc bs pc lv [.int (iI r)] := by
  intro H locs ls cells slots h1 h2 hg hl
  refine W.widen (k := R.cells) (n := R.slots) (by omega) (by omega) ?_
  have hr := hc.2.2.2.2.2.2.1
  exact W.zret hc.1 hc.2.1 hr (iI_nc hn.1 hn.2) (fun t ht hW => ⟨⟨_, G, rfl, hpost, by rw [ht]; exact hg.1⟩, hg.2.F ht⟩) hg.2.2.2 d hc.2.2.2.2.2.1
theorem gw_lret {post : Option Value → gM → Prop} (hc : cx p s m args meth c D X b0 own cc nL (some .long)) {r : Int} (d : decode cc pc = .ok (.lreturn, 1)) (hpost : post (some (.long (jI r))) G) : GW p l e R s m args below meth c D b0 nL (MQ below (gQ D b0 post) args s R.cells R.slots (bz b0)) G bc bs pc lv [.long (jI r)] := by
  intro H locs ls cells slots h1 h2 hg hl
  refine W.widen (k := R.cells) (n := R.slots) (by omega) (by omega) ?_
  have hr := hc.2.2.2.2.2.2.1
  exact W.lret hc.1 hc.2.1 hr (fun t ht hW => ⟨⟨_, G, rfl, hpost, by rw [ht]; exact hg.1⟩, hg.2.F ht⟩) hg.2.2.2 d hc.2.2.2.2.2.1
theorem gw_vret {post : Option Value → gM → Prop} (hc : cx p s m args meth c D X b0 own cc nL none) (d : decode cc pc = .ok (.return_, 1)) (hpost : post none G) : GW p l e R s m args below meth c D b0 nL (MQ below (gQ D b0 post) args s R.cells R.slots (bz b0)) G bc bs pc lv [] := by
  intro H locs ls cells slots h1 h2 hg hl
  refine W.widen (k := R.cells) (n := R.slots) (by omega) (by omega) ?_
  have hr := hc.2.2.2.2.2.2.1
  exact W.vret hc.1 hc.2.1 hr (fun t ht hW => ⟨⟨_, G, rfl, hpost, by rw [ht]; exact hg.1⟩, hg.2.F ht⟩) hg.2.2.2 d hc.2.2.2.2.2.1
theorem gw_aret {post : Option Value → gM → Prop} (hc : cx p s m args meth c D X b0 own cc nL ret) {a : Nat} {rt : FieldType} (hrt0 : ret = some rt) (hrt : (∃ n, rt = .object n) ∨ ∃ t, rt = .array t) (d : decode cc pc = .ok (.areturn, 1)) (hpost : post (some (.ref a)) G) : GW p l e R s m args below meth c D b0 nL (MQ below (gQ D b0 post) args s R.cells R.slots (bz b0)) G bc bs pc lv [.ref a] := by
  intro H locs ls cells slots h1 h2 hg hl
  refine W.widen (k := R.cells) (n := R.slots) (by omega) (by omega) ?_
  have hr := hc.2.2.2.2.2.2.1
  exact W.aret hc.1 hc.2.1 (hr.trans hrt0) hrt (Or.inr ⟨a, rfl⟩) (fun t ht hW => ⟨⟨_, G, rfl, hpost, by rw [ht]; exact hg.1⟩, hg.2.F ht⟩) hg.2.2.2 d hc.2.2.2.2.2.1
theorem gw_aretq {post : Option Value → gM → Prop} (hc : cx p s m args meth c D X b0 own cc nL ret) {x : Option Nat} {rt : FieldType} (hrt0 : ret = some rt) (hrt : (∃ n, rt = .object n) ∨ ∃ t, rt = .array t) (d : decode cc pc = .ok (.areturn, 1)) (hpost : post (some (va_rf x)) G) : GW p l e R s m args below meth c D b0 nL (MQ below (gQ D b0 post) args s R.cells R.slots (bz b0)) G bc bs pc lv [va_rf x] := by
  intro H locs ls cells slots h1 h2 hg hl
  refine W.widen (k := R.cells) (n := R.slots) (by omega) (by omega) ?_
  have hr := hc.2.2.2.2.2.2.1
  exact W.aret hc.1 hc.2.1 (hr.trans hrt0) hrt (by cases x; exact Or.inl rfl; exact Or.inr ⟨_, rfl⟩) (fun t ht hW => ⟨⟨_, G, rfl, hpost, by rw [ht]; exact hg.1⟩, hg.2.F ht⟩) hg.2.2.2 d hc.2.2.2.2.2.1
theorem gw_get (hc : cx p s m args meth c D X b0 own cc nL ret) {a : Nat} {ref : String} {C : String} {T : u_T} {N ci index : Nat} {ty0 : Nat → FieldType} {fs : List Value} (d : decode cc pc = .ok (.getfield index, 3)) (hq : pc + 3 = q) (hE : cE ci C T N ty0) (k : Nat) (hk : k < N) (hlink : Cond.fieldLink own index ref (T k).2.1 (T k).2.2.1 ∈ lw_all) (hsame : ∀ x, s.fieldFound? (T k).1 (T k).2.1 (T k).2.2.1 = some x → s.fieldFound? ref (T k).2.1 (T k).2.2.1 = some x) (hG : G a = some (.inr (ci, fs))) {v : Value} (hv : fs[k]? = some v) (kk : GW p l e R s m args below meth c D b0 nL Q G bc bs q lv (v :: st)) : GW p l e R s m args below meth c D b0 nL Q G bc bs pc lv (.ref a :: st) := by
  subst hq
  intro H locs ls cells slots h1 h2 hg hl
  exact va_get hc.1 hc.2.1 hc.2.2.2.2.1 hE.2.1 hc.2.2.2.1 hc.2.2.2.2.2.2.2.2.1.1 (vP1 (hg.1 a _ hG).1) 0 rfl hE.1 k hk (hc.2.2.2.2.1 _ hlink) hsame hv d (kk H locs ls cells slots h1 h2 hg hl)
theorem gw_getN (hc : cx p s m args meth c D X b0 own cc nL ret) {a : Nat} {ref : String} {C : String} {T : u_T} {N ci index : Nat} {ty0 : Nat → FieldType} {fs : List Value} (d : decode cc pc = .ok (.getfield index, 3)) (hq : pc + 3 = q) (hE : cE ci C T N ty0) (k : Nat) (hk : k < N) {host : String} (hlink : Cond.fieldLinkNest own index ref (T k).2.1 (T k).2.2.1 host ∈ lw_tbl) (hsame : ∀ x, s.fieldFound? (T k).1 (T k).2.1 (T k).2.2.1 = some x → s.fieldFound? ref (T k).2.1 (T k).2.2.1 = some x) (hG : G a = some (.inr (ci, fs))) {v : Value} (hv : fs[k]? = some v) (kk : GW p l e R s m args below meth c D b0 nL Q G bc bs q lv (v :: st)) : GW p l e R s m args below meth c D b0 nL Q G bc bs pc lv (.ref a :: st) := by
  subst hq
  intro H locs ls cells slots h1 h2 hg hl
  exact va_getN hc.1 hc.2.1 hc.2.2.2.2.1 hE.2.1 hc.2.2.2.1 hc.2.2.2.2.2.2.2.2.1.1 (vP1 (hg.1 a _ hG).1) 0 rfl hE.1 k hk (va_Nw.use (A := args) rfl (hc.2.2.2.2.2.2.2.2.1.2 _ hlink rfl)) hsame hv d (kk H locs ls cells slots h1 h2 hg hl)
theorem gw_put (hc : cx p s m args meth c D X b0 own cc nL ret) {a : Nat} {ref : String} {C : String} {T : u_T} {N ci index : Nat} {ty0 : Nat → FieldType} {fs : List Value} (d : decode cc pc = .ok (.putfield index, 3)) (hq : pc + 3 = q) (hE : cE ci C T N ty0) (k : Nat) (hk : k < N) (hlink : Cond.fieldLink own index ref (T k).2.1 (T k).2.2.1 ∈ lw_all) (hsame : ∀ x, s.fieldFound? (T k).1 (T k).2.1 (T k).2.2.1 = some x → s.fieldFound? ref (T k).2.1 (T k).2.2.1 = some x) (hfin : (T k).2.2.2 = false) (hG : G a = some (.inr (ci, fs))) {v : Value} (hn : narrow (ty0 k) v = v ∧ fits (ty0 k) v = true) {fs' : List Value} (hfs : fs.set k v = fs') (hlt : k < fs.length) (kk : GW p l e R s m args below meth c D b0 nL Q (gup G a (.inr (ci, fs'))) bc bs q lv st) : GW p l e R s m args below meth c D b0 nL Q G bc bs pc lv (v :: .ref a :: st) := by
  subst hq
  subst hfs
  intro H locs ls cells slots h1 h2 hg hl
  obtain ⟨hci, hin, hty, hnm⟩ := hE
  obtain ⟨r, hr1, cell, q1, q2, q3, q4⟩ := (hg.1 a _ hG).1
  have hr : r = (C, T, N) := Option.some.inj (hr1.symm.trans hci)
  subst hr
  have hK := hc.2.2.2.2.2.2.2.2.1.1
  have hap := va_apart (own := own) hc.2.2.2.2.1 hin ty0 hty hnm hK hci
  obtain ⟨hSl, hfc, kC, hkC, hkind⟩ := hK.1 ci _ hci
  obtain ⟨cf, kf, fi, f, hi, hsl⟩ := hSl k hk
  have hd' := hty k hk
  have hlink' := hc.2.2.2.2.1 _ hlink
  have new : ∀ H' : Heap, H'[a]? = some (cell.setSlot f.slot v) → H'.size = H.size → (∀ q, q ≠ a → H'[q]? = H[q]?) → gs D b0 s (gup G a (.inr (ci, fs.set k v))) H' (locs ++ [⟨a, f.slot⟩]) := fun H' e1 e2 e3 => by
    rw [hsl] at e1
    exact gs_up hg hG ⟨_, hci, t_OB.to (V := updV (vp_V fs) k v) ⟨_, e1, q2, q3, t_set q4 hap hk v⟩ (fun j _ => vp_updV_set hlt v j)⟩ e2 e3
  have hlay := hc.2.2.2.2.1 _ (hin _ (u_in_lay hk))
  unfold u_lay at hlay
  rw [if_neg (by rw [hfin]; decide)] at hlay
  have hst := (u_facts hfc hkC (u_lays hc.2.2.2.2.1 hin hk) hi).1
  have h6 := u_store hfc hkC hkind hlay hi hd' hn.1 hn.2
  exact W.putK hc.1 hc.2.1 (f := f) ⟨hc.2.2.2.1, hlink', ⟨_, _, _, hsame _ hi⟩, hst⟩ (by rw [q2]; exact h6) q1 q3 (by rw [hsl]; exact k2_hasslot (q4 k hk)) rfl rfl d (fun H' e1 e2 e3 => kk H' _ ls cells slots h1 h2 (new H' e1 e2 e3) hl)
theorem gw_putN (hc : cx p s m args meth c D X b0 own cc nL ret) {a : Nat} {ref : String} {C : String} {T : u_T} {N ci index : Nat} {ty0 : Nat → FieldType} {fs : List Value} (d : decode cc pc = .ok (.putfield index, 3)) (hq : pc + 3 = q) (hE : cE ci C T N ty0) (k : Nat) (hk : k < N) {host : String} (hlink : Cond.fieldLinkNest own index ref (T k).2.1 (T k).2.2.1 host ∈ lw_tbl) (hsame : ∀ x, s.fieldFound? (T k).1 (T k).2.1 (T k).2.2.1 = some x → s.fieldFound? ref (T k).2.1 (T k).2.2.1 = some x) (hfin : (T k).2.2.2 = false) (hG : G a = some (.inr (ci, fs))) {v : Value} (hn : narrow (ty0 k) v = v ∧ fits (ty0 k) v = true) {fs' : List Value} (hfs : fs.set k v = fs') (hlt : k < fs.length) (kk : GW p l e R s m args below meth c D b0 nL Q (gup G a (.inr (ci, fs'))) bc bs q lv st) : GW p l e R s m args below meth c D b0 nL Q G bc bs pc lv (v :: .ref a :: st) := by
  subst hq
  subst hfs
  intro H locs ls cells slots h1 h2 hg hl
  obtain ⟨hci, hin, hty, hnm⟩ := hE
  obtain ⟨r, hr1, cell, q1, q2, q3, q4⟩ := (hg.1 a _ hG).1
  have hr : r = (C, T, N) := Option.some.inj (hr1.symm.trans hci)
  subst hr
  have hK := hc.2.2.2.2.2.2.2.2.1.1
  have hap := va_apart (own := own) hc.2.2.2.2.1 hin ty0 hty hnm hK hci
  obtain ⟨hSl, hfc, kC, hkC, hkind⟩ := hK.1 ci _ hci
  obtain ⟨cf, kf, fi, f, hi, hsl⟩ := hSl k hk
  have hd' := hty k hk
  have hlink' := va_Nw.use (A := args) rfl (hc.2.2.2.2.2.2.2.2.1.2 _ hlink rfl)
  have new : ∀ H' : Heap, H'[a]? = some (cell.setSlot f.slot v) → H'.size = H.size → (∀ q, q ≠ a → H'[q]? = H[q]?) → gs D b0 s (gup G a (.inr (ci, fs.set k v))) H' (locs ++ [⟨a, f.slot⟩]) := fun H' e1 e2 e3 => by
    rw [hsl] at e1
    exact gs_up hg hG ⟨_, hci, t_OB.to (V := updV (vp_V fs) k v) ⟨_, e1, q2, q3, t_set q4 hap hk v⟩ (fun j _ => vp_updV_set hlt v j)⟩ e2 e3
  have hlay := hc.2.2.2.2.1 _ (hin _ (u_in_lay hk))
  unfold u_lay at hlay
  rw [if_neg (by rw [hfin]; decide)] at hlay
  have hst := (u_facts hfc hkC (u_lays hc.2.2.2.2.1 hin hk) hi).1
  have h6 := u_store hfc hkC hkind hlay hi hd' hn.1 hn.2
  exact va_WputK hc.1 hc.2.1 (f := f) hc.2.2.2.1 hlink' (hsame _ hi) hst (by rw [q2]; exact h6) q1 q3 (by rw [hsl]; exact k2_hasslot (q4 k hk)) rfl rfl d (fun H' e1 e2 e3 => kk H' _ ls cells slots h1 h2 (new H' e1 e2 e3) hl)
theorem gw_putF (hc : cx p s m args meth c D X b0 own cc nL ret) {a : Nat} {ref : String} {C : String} {T : u_T} {N ci index : Nat} {ty0 : Nat → FieldType} {fs : List Value} (d : decode cc pc = .ok (.putfield index, 3)) (hq : pc + 3 = q) (hE : cE ci C T N ty0) (k : Nat) (hk : k < N) (hlink : Cond.fieldLink own index ref (T k).2.1 (T k).2.2.1 ∈ lw_all) (hsame : ∀ x, s.fieldFound? (T k).1 (T k).2.1 (T k).2.2.1 = some x → s.fieldFound? ref (T k).2.1 (T k).2.2.1 = some x) (hfin : (T k).2.2.2 = true) (hin2 : meth.name = "<init>") (hdecl : (T k).1 = own) (hG : G a = some (.inr (ci, fs))) {v : Value} (hn : narrow (ty0 k) v = v ∧ fits (ty0 k) v = true) {fs' : List Value} (hfs : fs.set k v = fs') (hlt : k < fs.length) (kk : GW p l e R s m args below meth c D b0 nL Q (gup G a (.inr (ci, fs'))) bc bs q lv st) : GW p l e R s m args below meth c D b0 nL Q G bc bs pc lv (v :: .ref a :: st) := by
  subst hq
  subst hfs
  intro H locs ls cells slots h1 h2 hg hl
  obtain ⟨hci, hin, hty, hnm⟩ := hE
  obtain ⟨r, hr1, cell, q1, q2, q3, q4⟩ := (hg.1 a _ hG).1
  have hr : r = (C, T, N) := Option.some.inj (hr1.symm.trans hci)
  subst hr
  have hK := hc.2.2.2.2.2.2.2.2.1.1
  have hap := va_apart (own := own) hc.2.2.2.2.1 hin ty0 hty hnm hK hci
  obtain ⟨hSl, hfc, kC, hkC, hkind⟩ := hK.1 ci _ hci
  obtain ⟨cf, kf, fi, f, hi, hsl⟩ := hSl k hk
  have hd' := hty k hk
  have hlink' := hc.2.2.2.2.1 _ hlink
  have new : ∀ H' : Heap, H'[a]? = some (cell.setSlot f.slot v) → H'.size = H.size → (∀ q, q ≠ a → H'[q]? = H[q]?) → gs D b0 s (gup G a (.inr (ci, fs.set k v))) H' (locs ++ [⟨a, f.slot⟩]) := fun H' e1 e2 e3 => by
    rw [hsl] at e1
    exact gs_up hg hG ⟨_, hci, t_OB.to (V := updV (vp_V fs) k v) ⟨_, e1, q2, q3, t_set q4 hap hk v⟩ (fun j _ => vp_updV_set hlt v j)⟩ e2 e3
  have hlay := hc.2.2.2.2.1 _ (hin _ (u_in_lay hk))
  unfold u_lay at hlay
  rw [if_pos hfin] at hlay
  have hst := (u_facts hfc hkC (u_lays hc.2.2.2.2.1 hin hk) hi).1
  have hcf : m.cls = cf := by
    obtain ⟨_, _, c', _, _, _, -, -, hf', -, -, -, hown2, -⟩ := Cond.laysFinal_spec hlay
    have e1 : c' = cf := by have := hi.symm.trans hf'; simp at this; exact this.1.symm
    rw [hdecl] at hown2
    rw [← e1]; exact Option.some.inj (hc.2.2.2.1.symm.trans hown2)
  have h6 := u_fits hfc hkC hkind (Or.inr hlay) hi hd' hn.1 hn.2
  exact W.putFinK hc.1 hc.2.1 hc.2.2.2.1 hlink' (hsame _ hi) hst hcf hin2 (by rw [q2]; exact h6) q1 q3 (by rw [hsl]; exact k2_hasslot (q4 k hk)) rfl rfl d (fun H' e1 e2 e3 => kk H' _ ls cells slots h1 h2 (new H' e1 e2 e3) hl)
theorem gw_iald (hc : cx p s m args meth c D X b0 own cc nL ret) {a n : Nat} {f : Int → Int} {z : Int} (d : decode cc pc = .ok (.iaload, 1)) (hq : pc + 1 = q) (hG : G a = some (iA D n f)) (hz : 0 ≤ z ∧ z < n) (hn : z < 2147483648) (kk : GW p l e R s m args below meth c D b0 nL Q G bc bs q lv (.int (iI (f z)) :: st)) : GW p l e R s m args below meth c D b0 nL Q G bc bs pc lv (.int (iI z) :: .ref a :: st) := by
  subst hq
  intro H locs ls cells slots h1 h2 hg hl
  have hin := iI_in hz.1 hz.2 hn
  have hlt : (iI z).toNatClampNeg < n := Nat.not_le.mp fun q => hin (Or.inr q)
  have hcl := iI_clamp hz.1 hn
  exact W.iald (v := .int (iI (f z))) hc.1 hc.2.1 (hg.1 a _ hG).1 ((hc.2.2.2.2.2.2.2.2.1.1.2 0 _ rfl).1 n (fun j : Nat => .int (iI (f (j : Int))))) (fun q => by cases q) (by show ¬ (iI z < 0 ∨ (arrV _ _ _).slots.size ≤ _); rw [arrV_size]; exact hin) (by show (arrV _ _ (fun j : Nat => .int (iI (f (j : Int))))).slots[_]? = _; rw [arrV_read _ _ hlt, hcl]) rfl rfl d (kk H locs ls cells slots h1 h2 hg hl)
theorem gw_lald (hc : cx p s m args meth c D X b0 own cc nL ret) {a n : Nat} {f : Int → Int} {z : Int} (d : decode cc pc = .ok (.laload, 1)) (hq : pc + 1 = q) (hG : G a = some (jA D n f)) (hz : 0 ≤ z ∧ z < n) (hn : z < 2147483648) (kk : GW p l e R s m args below meth c D b0 nL Q G bc bs q lv (.long (jI (f z)) :: st)) : GW p l e R s m args below meth c D b0 nL Q G bc bs pc lv (.int (iI z) :: .ref a :: st) := by
  subst hq
  intro H locs ls cells slots h1 h2 hg hl
  have hin := iI_in hz.1 hz.2 hn
  have hlt : (iI z).toNatClampNeg < n := Nat.not_le.mp fun q => hin (Or.inr q)
  have hcl := iI_clamp hz.1 hn
  exact W.lald (v := .long (jI (f z))) hc.1 hc.2.1 (hg.1 a _ hG).1 ((hc.2.2.2.2.2.2.2.2.1.1.2 1 _ rfl).1 n (fun j : Nat => .long (jI (f (j : Int))))) (fun q => by cases q) (by show ¬ (iI z < 0 ∨ (arrV _ _ _).slots.size ≤ _); rw [arrV_size]; exact hin) (by show (arrV _ _ (fun j : Nat => .long (jI (f (j : Int))))).slots[_]? = _; rw [arrV_read _ _ hlt, hcl]) rfl rfl d (kk H locs ls cells slots h1 h2 hg hl)
theorem gw_bald (hc : cx p s m args meth c D X b0 own cc nL ret) {a n : Nat} {f : Int → Int} {z : Int} (d : decode cc pc = .ok (.baload, 1)) (hq : pc + 1 = q) (hG : G a = some (bA D n f)) (hz : 0 ≤ z ∧ z < n) (hn : z < 2147483648) (kk : GW p l e R s m args below meth c D b0 nL Q G bc bs q lv (.int (iI (f z)) :: st)) : GW p l e R s m args below meth c D b0 nL Q G bc bs pc lv (.int (iI z) :: .ref a :: st) := by
  subst hq
  intro H locs ls cells slots h1 h2 hg hl
  have hin := iI_in hz.1 hz.2 hn
  have hlt : (iI z).toNatClampNeg < n := Nat.not_le.mp fun q => hin (Or.inr q)
  have hcl := iI_clamp hz.1 hn
  exact W.bald (v := .int (iI (f z))) hc.1 hc.2.1 (hg.1 a _ hG).1 ((hc.2.2.2.2.2.2.2.2.1.1.2 2 _ rfl).1 n (fun j : Nat => .int (iI (f (j : Int))))) (fun q => by cases q) (by show ¬ (iI z < 0 ∨ (arrV _ _ _).slots.size ≤ _); rw [arrV_size]; exact hin) (by show (arrV _ _ (fun j : Nat => .int (iI (f (j : Int))))).slots[_]? = _; rw [arrV_read _ _ hlt, hcl]) rfl rfl d (kk H locs ls cells slots h1 h2 hg hl)
theorem gw_zald (hc : cx p s m args meth c D X b0 own cc nL ret) {a n : Nat} {f : Int → Int} {z : Int} (d : decode cc pc = .ok (.baload, 1)) (hq : pc + 1 = q) (hG : G a = some (zA D n f)) (hz : 0 ≤ z ∧ z < n) (hn : z < 2147483648) (kk : GW p l e R s m args below meth c D b0 nL Q G bc bs q lv (.int (iI (f z)) :: st)) : GW p l e R s m args below meth c D b0 nL Q G bc bs pc lv (.int (iI z) :: .ref a :: st) := by
  subst hq
  intro H locs ls cells slots h1 h2 hg hl
  have hin := iI_in hz.1 hz.2 hn
  have hlt : (iI z).toNatClampNeg < n := Nat.not_le.mp fun q => hin (Or.inr q)
  have hcl := iI_clamp hz.1 hn
  exact W.zald (v := .int (iI (f z))) hc.1 hc.2.1 (hg.1 a _ hG).1 ((hc.2.2.2.2.2.2.2.2.1.1.2 3 _ rfl).1 n (fun j : Nat => .int (iI (f (j : Int))))) (fun q => by cases q) (by show ¬ (iI z < 0 ∨ (arrV _ _ _).slots.size ≤ _); rw [arrV_size]; exact hin) (by show (arrV _ _ (fun j : Nat => .int (iI (f (j : Int))))).slots[_]? = _; rw [arrV_read _ _ hlt, hcl]) rfl rfl d (kk H locs ls cells slots h1 h2 hg hl)
theorem gw_aald (hc : cx p s m args meth c D X b0 own cc nL ret) {a n : Nat} {f : Int → Option Nat} {z : Int} (d : decode cc pc = .ok (.aaload, 1)) (hq : pc + 1 = q) (hG : G a = some (qA D n f)) (hz : 0 ≤ z ∧ z < n) (hn : z < 2147483648) (kk : GW p l e R s m args below meth c D b0 nL Q G bc bs q lv (va_rf (f z) :: st)) : GW p l e R s m args below meth c D b0 nL Q G bc bs pc lv (.int (iI z) :: .ref a :: st) := by
  subst hq
  intro H locs ls cells slots h1 h2 hg hl
  have hin := iI_in hz.1 hz.2 hn
  have hlt : (iI z).toNatClampNeg < n := Nat.not_le.mp fun q => hin (Or.inr q)
  have hcl := iI_clamp hz.1 hn
  exact W.aald (v := va_rf (f z)) hc.1 hc.2.1 (hg.1 a _ hG).1 ((hc.2.2.2.2.2.2.2.2.1.1.2 4 _ rfl).1 n (fun j : Nat => va_rf (f (j : Int)))) rfl (fun q => by cases q) (by show ¬ (iI z < 0 ∨ (arrV _ _ _).slots.size ≤ _); rw [arrV_size]; exact hin) (by show (arrV _ _ (fun j : Nat => va_rf (f (j : Int)))).slots[_]? = _; rw [arrV_read _ _ hlt, hcl]) rfl rfl d (kk H locs ls cells slots h1 h2 hg hl)
theorem gw_hald (hc : cx p s m args meth c D X b0 own cc nL ret) {a n : Nat} {f : Int → Option Nat} {z : Int} (d : decode cc pc = .ok (.aaload, 1)) (hq : pc + 1 = q) (hG : G a = some (hA D n f)) (hz : 0 ≤ z ∧ z < n) (hn : z < 2147483648) (kk : GW p l e R s m args below meth c D b0 nL Q G bc bs q lv (va_rf (f z) :: st)) : GW p l e R s m args below meth c D b0 nL Q G bc bs pc lv (.int (iI z) :: .ref a :: st) := by
  subst hq
  intro H locs ls cells slots h1 h2 hg hl
  have hin := iI_in hz.1 hz.2 hn
  have hlt : (iI z).toNatClampNeg < n := Nat.not_le.mp fun q => hin (Or.inr q)
  have hcl := iI_clamp hz.1 hn
  exact W.aald (v := va_rf (f z)) hc.1 hc.2.1 (hg.1 a _ hG).1 ((hc.2.2.2.2.2.2.2.2.1.1.2 5 _ rfl).1 n (fun j : Nat => va_rf (f (j : Int)))) rfl (fun q => by cases q) (by show ¬ (iI z < 0 ∨ (arrV _ _ _).slots.size ≤ _); rw [arrV_size]; exact hin) (by show (arrV _ _ (fun j : Nat => va_rf (f (j : Int)))).slots[_]? = _; rw [arrV_read _ _ hlt, hcl]) rfl rfl d (kk H locs ls cells slots h1 h2 hg hl)
theorem gw_iast (hc : cx p s m args meth c D X b0 own cc nL ret) {a n : Nat} {f : Int → Int} {z x : Int} (d : decode cc pc = .ok (.iastore, 1)) (hq : pc + 1 = q) (hG : G a = some (iA D n f)) (hz : 0 ≤ z ∧ z < n) (hn : z < 2147483648) (kk : GW p l e R s m args below meth c D b0 nL Q (gup G a (iA D n (fu f z x))) bc bs q lv st) : GW p l e R s m args below meth c D b0 nL Q G bc bs pc lv (.int (iI x) :: .int (iI z) :: .ref a :: st) := by
  subst hq
  intro H locs ls cells slots h1 h2 hg hl
  have hin := iI_in hz.1 hz.2 hn
  have hcl := iI_clamp hz.1 hn
  refine W.iast hc.1 hc.2.1 (hg.1 a _ hG).1 ((hc.2.2.2.2.2.2.2.2.1.1.2 0 _ rfl).1 n (fun j : Nat => .int (iI (f (j : Int))))) (fun q => by cases q) (by show ¬ (iI z < 0 ∨ (arrV _ _ _).slots.size ≤ _); rw [arrV_size]; exact hin) rfl rfl d (fun H1 e e2 e3 => kk H1 _ ls cells slots h1 h2 (gs_up hg hG ?_ e2 e3) hl)
  show H1[a]? = some (arrV _ _ (fun j : Nat => .int (iI (fu f z x (j : Int)))))
  skip
  rw [e]
  show some ((arrV _ _ (fun j : Nat => .int (iI (f (j : Int))))).setSlot _ _) = _
  rw [arrV_store]
  congr 2
  funext j
  exact up_fu hcl (fun v : Int => (.int (iI v) : Value))
theorem gw_last (hc : cx p s m args meth c D X b0 own cc nL ret) {a n : Nat} {f : Int → Int} {z x : Int} (d : decode cc pc = .ok (.lastore, 1)) (hq : pc + 1 = q) (hG : G a = some (jA D n f)) (hz : 0 ≤ z ∧ z < n) (hn : z < 2147483648) (kk : GW p l e R s m args below meth c D b0 nL Q (gup G a (jA D n (fu f z x))) bc bs q lv st) : GW p l e R s m args below meth c D b0 nL Q G bc bs pc lv (.long (jI x) :: .int (iI z) :: .ref a :: st) := by
  subst hq
  intro H locs ls cells slots h1 h2 hg hl
  have hin := iI_in hz.1 hz.2 hn
  have hcl := iI_clamp hz.1 hn
  refine W.last hc.1 hc.2.1 (hg.1 a _ hG).1 ((hc.2.2.2.2.2.2.2.2.1.1.2 1 _ rfl).1 n (fun j : Nat => .long (jI (f (j : Int))))) (fun q => by cases q) (by show ¬ (iI z < 0 ∨ (arrV _ _ _).slots.size ≤ _); rw [arrV_size]; exact hin) rfl rfl d (fun H1 e e2 e3 => kk H1 _ ls cells slots h1 h2 (gs_up hg hG ?_ e2 e3) hl)
  show H1[a]? = some (arrV _ _ (fun j : Nat => .long (jI (fu f z x (j : Int)))))
  skip
  rw [e]
  show some ((arrV _ _ (fun j : Nat => .long (jI (f (j : Int))))).setSlot _ _) = _
  rw [arrV_store]
  congr 2
  funext j
  exact up_fu hcl (fun v : Int => (.long (jI v) : Value))
theorem gw_bast (hc : cx p s m args meth c D X b0 own cc nL ret) {a n : Nat} {f : Int → Int} {z x : Int} (d : decode cc pc = .ok (.bastore, 1)) (hq : pc + 1 = q) (hG : G a = some (bA D n f)) (hz : 0 ≤ z ∧ z < n) (hn : z < 2147483648) (hx : -128 ≤ x ∧ x < 128) (kk : GW p l e R s m args below meth c D b0 nL Q (gup G a (bA D n (fu f z x))) bc bs q lv st) : GW p l e R s m args below meth c D b0 nL Q G bc bs pc lv (.int (iI x) :: .int (iI z) :: .ref a :: st) := by
  subst hq
  intro H locs ls cells slots h1 h2 hg hl
  have hin := iI_in hz.1 hz.2 hn
  have hcl := iI_clamp hz.1 hn
  refine W.bast hc.1 hc.2.1 (hg.1 a _ hG).1 ((hc.2.2.2.2.2.2.2.2.1.1.2 2 _ rfl).1 n (fun j : Nat => .int (iI (f (j : Int))))) (fun q => by cases q) (by show ¬ (iI z < 0 ∨ (arrV _ _ _).slots.size ≤ _); rw [arrV_size]; exact hin) rfl rfl d (fun H1 e e2 e3 => kk H1 _ ls cells slots h1 h2 (gs_up hg hG ?_ e2 e3) hl)
  show H1[a]? = some (arrV _ _ (fun j : Nat => .int (iI (fu f z x (j : Int)))))
  rw [show narrow .byte (.int (iI x)) = .int (iI x) from congrArg Value.int (iI_i2b hx.1 hx.2)] at e
  rw [e]
  show some ((arrV _ _ (fun j : Nat => .int (iI (f (j : Int))))).setSlot _ _) = _
  rw [arrV_store]
  congr 2
  funext j
  exact up_fu hcl (fun v : Int => (.int (iI v) : Value))
theorem gw_zast (hc : cx p s m args meth c D X b0 own cc nL ret) {a n : Nat} {f : Int → Int} {z x : Int} (d : decode cc pc = .ok (.bastore, 1)) (hq : pc + 1 = q) (hG : G a = some (zA D n f)) (hz : 0 ≤ z ∧ z < n) (hn : z < 2147483648) (hx : x = 0 ∨ x = 1) (kk : GW p l e R s m args below meth c D b0 nL Q (gup G a (zA D n (fu f z x))) bc bs q lv st) : GW p l e R s m args below meth c D b0 nL Q G bc bs pc lv (.int (iI x) :: .int (iI z) :: .ref a :: st) := by
  subst hq
  intro H locs ls cells slots h1 h2 hg hl
  have hin := iI_in hz.1 hz.2 hn
  have hcl := iI_clamp hz.1 hn
  refine W.zast hc.1 hc.2.1 (hg.1 a _ hG).1 ((hc.2.2.2.2.2.2.2.2.1.1.2 3 _ rfl).1 n (fun j : Nat => .int (iI (f (j : Int))))) (fun q => by cases q) (by show ¬ (iI z < 0 ∨ (arrV _ _ _).slots.size ≤ _); rw [arrV_size]; exact hin) rfl rfl d (fun H1 e e2 e3 => kk H1 _ ls cells slots h1 h2 (gs_up hg hG ?_ e2 e3) hl)
  show H1[a]? = some (arrV _ _ (fun j : Nat => .int (iI (fu f z x (j : Int)))))
  rw [show narrow .boolean (.int (iI x)) = .int (iI x) from by rcases hx with rfl | rfl <;> rfl] at e
  rw [e]
  show some ((arrV _ _ (fun j : Nat => .int (iI (f (j : Int))))).setSlot _ _) = _
  rw [arrV_store]
  congr 2
  funext j
  exact up_fu hcl (fun v : Int => (.int (iI v) : Value))
theorem gw_aast (hc : cx p s m args meth c D X b0 own cc nL ret) {a b n : Nat} {f : Int → Option Nat} {z : Int} {C : String} {T : u_T} {N ci : Nat} {ty0 : Nat → FieldType} {fs : List Value} (d : decode cc pc = .ok (.aastore, 1)) (hq : pc + 1 = q) (hG : G a = some (qA D n f)) (hz : 0 ≤ z ∧ z < n) (hn : z < 2147483648) (hE : cE ci C T N ty0) (hv : G b = some (.inr (ci, fs))) (hcast : Cond.castable C "java/lang/Object" ∈ lw_tbl) (kk : GW p l e R s m args below meth c D b0 nL Q (gup G a (qA D n (fu f z (some b)))) bc bs q lv st) : GW p l e R s m args below meth c D b0 nL Q G bc bs pc lv (.ref b :: .int (iI z) :: .ref a :: st) := by
  subst hq
  intro H locs ls cells slots h1 h2 hg hl
  have hin := iI_in hz.1 hz.2 hn
  have hlt : (iI z).toNatClampNeg < n := Nat.not_le.mp fun q => hin (Or.inr q)
  have h0 : ¬ iI z < 0 := fun q => hin (Or.inl q)
  have hcl := iI_clamp hz.1 hn
  have hK := hc.2.2.2.2.2.2.2.2.1.1
  obtain ⟨cellV, g1, g2, g3⟩ := va_recv hK (vP1 (hg.1 b _ hv).1) hE.1 (q0 := 0) rfl
  obtain ⟨kA, comp, k1, k2, k3, -⟩ := (hK.2 4 _ rfl).2
  obtain ⟨kV, hkV, -⟩ := Vm.findClass_spec g3
  obtain ⟨kC, hkC, -⟩ := Vm.findClass_spec k3
  refine W.aast hc.1 hc.2.1 (hg.1 a _ hG).1 (fun q h => by cases h) (fun h => by cases h) k1 k2 rfl hkC ⟨h0, by show _ < (arrV _ _ _).slots.size; rw [arrV_size]; exact hlt⟩ g1 (fun q h => by rw [h] at g2; cases g2) hkV (vb_asgC (hc.2.2.2.2.2.2.2.2.1.2 _ hcast rfl) _ _ k3 g3) rfl rfl d (fun H1 e e2 e3 => kk H1 _ ls cells slots h1 h2 (gs_up hg hG ?_ e2 e3) hl)
  show H1[a]? = some (arrV _ _ (fun j : Nat => va_rf (fu f z (some b) (j : Int))))
  rw [e]
  show some ((arrV _ _ (fun j : Nat => va_rf (f (j : Int)))).setSlot _ _) = _
  rw [arrV_store]
  congr 2
  funext j
  exact up_fu (x := some b) hcl (fun v : Option Nat => va_rf v)
theorem gw_aastN (hc : cx p s m args meth c D X b0 own cc nL ret) {a n : Nat} {f : Int → Option Nat} {z : Int} (d : decode cc pc = .ok (.aastore, 1)) (hq : pc + 1 = q) (hG : G a = some (qA D n f)) (hz : 0 ≤ z ∧ z < n) (hn : z < 2147483648) (kk : GW p l e R s m args below meth c D b0 nL Q (gup G a (qA D n (fu f z none))) bc bs q lv st) : GW p l e R s m args below meth c D b0 nL Q G bc bs pc lv (.null :: .int (iI z) :: .ref a :: st) := by
  subst hq
  intro H locs ls cells slots h1 h2 hg hl
  have hin := iI_in hz.1 hz.2 hn
  have hcl := iI_clamp hz.1 hn
  refine va_WaastN (C := "java/lang/Object") hc.1 hc.2.1 (hg.1 a _ hG).1 ((hc.2.2.2.2.2.2.2.2.1.1.2 4 _ rfl).1 n (fun j : Nat => va_rf (f (j : Int)))) (fun h => by cases h) (by show ¬ (iI z < 0 ∨ (arrV _ _ _).slots.size ≤ _); rw [arrV_size]; exact hin) rfl rfl d (fun H1 e e2 e3 => kk H1 _ ls cells slots h1 h2 (gs_up hg hG ?_ e2 e3) hl)
  show H1[a]? = some (arrV _ _ (fun j : Nat => va_rf (fu f z none (j : Int))))
  rw [e]
  show some ((arrV _ _ (fun j : Nat => va_rf (f (j : Int)))).setSlot _ _) = _
  rw [arrV_store]
  congr 2
  funext j
  exact up_fu (x := none) hcl (fun v : Option Nat => va_rf v)
theorem gw_hast (hc : cx p s m args meth c D X b0 own cc nL ret) {a b n : Nat} {f : Int → Option Nat} {z : Int} {T : u_T} {N ci : Nat} {ty0 : Nat → FieldType} {fs : List Value} (d : decode cc pc = .ok (.aastore, 1)) (hq : pc + 1 = q) (hG : G a = some (hA D n f)) (hz : 0 ≤ z ∧ z < n) (hn : z < 2147483648) (hE : cE ci "EnergyDiscs$House" T N ty0) (hv : G b = some (.inr (ci, fs))) (kk : GW p l e R s m args below meth c D b0 nL Q (gup G a (hA D n (fu f z (some b)))) bc bs q lv st) : GW p l e R s m args below meth c D b0 nL Q G bc bs pc lv (.ref b :: .int (iI z) :: .ref a :: st) := by
  subst hq
  intro H locs ls cells slots h1 h2 hg hl
  have hin := iI_in hz.1 hz.2 hn
  have hlt : (iI z).toNatClampNeg < n := Nat.not_le.mp fun q => hin (Or.inr q)
  have h0 : ¬ iI z < 0 := fun q => hin (Or.inl q)
  have hcl := iI_clamp hz.1 hn
  have hK := hc.2.2.2.2.2.2.2.2.1.1
  obtain ⟨cellV, g1, g2, g3⟩ := va_recv hK (vP1 (hg.1 b _ hv).1) hE.1 (q0 := 0) rfl
  obtain ⟨kA, comp, k1, k2, k3, -⟩ := (hK.2 5 _ rfl).2
  obtain ⟨kV, hkV, -⟩ := Vm.findClass_spec g3
  obtain ⟨kC, hkC, -⟩ := Vm.findClass_spec k3
  refine W.aast hc.1 hc.2.1 (hg.1 a _ hG).1 (fun q h => by cases h) (fun h => by cases h) k1 k2 rfl hkC ⟨h0, by show _ < (arrV _ _ _).slots.size; rw [arrV_size]; exact hlt⟩ g1 (fun q h => by rw [h] at g2; cases g2) hkV (vb_asgS _ _ k3 g3) rfl rfl d (fun H1 e e2 e3 => kk H1 _ ls cells slots h1 h2 (gs_up hg hG ?_ e2 e3) hl)
  show H1[a]? = some (arrV _ _ (fun j : Nat => va_rf (fu f z (some b) (j : Int))))
  rw [e]
  show some ((arrV _ _ (fun j : Nat => va_rf (f (j : Int)))).setSlot _ _) = _
  rw [arrV_store]
  congr 2
  funext j
  exact up_fu (x := some b) hcl (fun v : Option Nat => va_rf v)
theorem gw_hastN (hc : cx p s m args meth c D X b0 own cc nL ret) {a n : Nat} {f : Int → Option Nat} {z : Int} (d : decode cc pc = .ok (.aastore, 1)) (hq : pc + 1 = q) (hG : G a = some (hA D n f)) (hz : 0 ≤ z ∧ z < n) (hn : z < 2147483648) (kk : GW p l e R s m args below meth c D b0 nL Q (gup G a (hA D n (fu f z none))) bc bs q lv st) : GW p l e R s m args below meth c D b0 nL Q G bc bs pc lv (.null :: .int (iI z) :: .ref a :: st) := by
  subst hq
  intro H locs ls cells slots h1 h2 hg hl
  have hin := iI_in hz.1 hz.2 hn
  have hcl := iI_clamp hz.1 hn
  refine va_WaastN (C := "EnergyDiscs$House") hc.1 hc.2.1 (hg.1 a _ hG).1 ((hc.2.2.2.2.2.2.2.2.1.1.2 5 _ rfl).1 n (fun j : Nat => va_rf (f (j : Int)))) (fun h => by cases h) (by show ¬ (iI z < 0 ∨ (arrV _ _ _).slots.size ≤ _); rw [arrV_size]; exact hin) rfl rfl d (fun H1 e e2 e3 => kk H1 _ ls cells slots h1 h2 (gs_up hg hG ?_ e2 e3) hl)
  show H1[a]? = some (arrV _ _ (fun j : Nat => va_rf (fu f z none (j : Int))))
  rw [e]
  show some ((arrV _ _ (fun j : Nat => va_rf (f (j : Int)))).setSlot _ _) = _
  rw [arrV_store]
  congr 2
  funext j
  exact up_fu (x := none) hcl (fun v : Option Nat => va_rf v)
theorem gw_alen (hc : cx p s m args meth c D X b0 own cc nL ret) {a : Nat} {cA : ClassId} {x : vp_A} {ty : FieldType} (t0 : Nat) (d : decode cc pc = .ok (.arraylength, 1)) (hq : pc + 1 = q) (hG : G a = some (.inl (cA, x))) (ht : (tyE D)[t0]? = some (cA, ty)) (kk : GW p l e R s m args below meth c D b0 nL Q G bc bs q lv (.int (iI (x.1 : Int)) :: st)) (hx : ∀ f, x.2 ≠ .inr (.inr (.inl f)) := by intro f h; cases h) : GW p l e R s m args below meth c D b0 nL Q G bc bs pc lv (.ref a :: st) := by
  subst hq
  intro H locs ls cells slots h1 h2 hg hl
  exact va_alen (v := iI (x.1 : Int)) hc.1 hc.2.1 hc.2.2.2.2.2.2.2.2.1.1 (vP1 (hg.1 a _ hG).1 (fun c n f h => hx f (by cases h; rfl))) 0 t0 rfl ht iI_nat d (kk H locs ls cells slots h1 h2 hg hl)
theorem gw_new (hc : cx p s m args meth c D X b0 own cc nL ret) {C : String} {T : u_T} {N ci index : Nat} {ty0 : Nat → FieldType} {fs : List Value} (d : decode cc pc = .ok (.new index, 3)) (hq : pc + 3 = q) (hE : cE ci C T N ty0) (hcl : Cond.classLink own index C ∈ lw_all) (hinst : Cond.instantiable C N ∈ lw_all) (hini : Cond.initialized C ∈ lw_all) (hfs : ∀ j, j < N → defaultValue (ty0 j) = vp_V fs j) {bc' bs' : Nat} (hb1 : bc' + 1 ≤ bc) (hb2 : bs' + N ≤ bs) (kk : ∀ a : Nat, G a = none → b0 ≤ a → GW p l e R s m args below meth c D b0 nL Q (gup G a (.inr (ci, fs))) bc' bs' q lv (.ref a :: st)) : GW p l e R s m args below meth c D b0 nL Q G bc bs pc lv st := by
  subst hq
  intro H locs ls cells slots h1 h2 hg hl
  have hKn := hc.2.2.2.2.2.2.2.2.1.1.1 ci _ hE.1
  have hw := hc.2.2.2.2.1
  refine W.newcK hc.1 hc.2.1 hc.2.2.2.1 (hw _ hcl) (hw _ hinst) (hw _ hini) rfl d (by omega) (by omega) hKn.2.1 rfl fun H1 kC hkC e1 z1 o1 => ?_
  have hb : b0 ≤ H.size := Nat.le_trans hc.2.2.2.2.2.2.2.1 hg.2.1
  exact kk H.size (gs_none hg) hb H1 locs ls (cells + 1) (slots + N) (by omega) (by omega) (gs_new hg hb ⟨_, hE.1, (u_born ty0 hw hE.2.1 hKn hkC e1 hE.2.2.1).to hfs⟩ z1 o1) hl
theorem gw_newi (hc : cx p s m args meth c D X b0 own cc nL ret) {n : Nat} (d : decode cc pc = .ok (.newarray .int, 2)) (hq : pc + 2 = q) (harr : Cond.arrayClass .int ∈ lw_all) (hn : n < 60000000) {bc' bs' : Nat} (hb1 : bc' + 1 ≤ bc) (hb2 : bs' + n ≤ bs) (kk : ∀ a : Nat, G a = none → b0 ≤ a → GW p l e R s m args below meth c D b0 nL Q (gup G a (iA D n (fun _ => 0))) bc' bs' q lv (.ref a :: st)) : GW p l e R s m args below meth c D b0 nL Q G bc bs pc lv (.int (iI (n : Int)) :: st) := by
  subst hq
  intro H locs ls cells slots h1 h2 hg hl
  have hz : ((iI (n : Int)).toNatClampNeg : Int) = n := iI_clamp (by omega) (by omega)
  have hz2 : (iI (n : Int)).toNatClampNeg = n := by omega
  refine va_newaK hc.1 hc.2.1 (atype := .int) (hc.2.2.2.2.1 _ harr) rfl d rfl (fun h => by have := (iI_lt (by omega) (show rI 0 by decide)).mp h; omega) hz2 (by show n * 4 ≤ _; omega) (by omega) (by omega) rfl fun H1 cA e1 z1 o1 hAr hNm => ?_
  have hb : b0 ≤ H.size := Nat.le_trans hc.2.2.2.2.2.2.2.1 hg.2.1
  have hcA : cA = D.1 (100 + 0) := Option.some.inj (hNm.symm.trans (hc.2.2.2.2.2.2.2.2.1.1.2 0 _ rfl).2)
  subst hcA
  exact kk H.size (gs_none hg) hb H1 locs ls (cells + 1) (slots + n) (by omega) (by omega) (gs_new hg hb e1 z1 o1) hl
theorem gw_newl (hc : cx p s m args meth c D X b0 own cc nL ret) {n : Nat} (d : decode cc pc = .ok (.newarray .long, 2)) (hq : pc + 2 = q) (harr : Cond.arrayClass .long ∈ lw_all) (hn : n < 60000000) {bc' bs' : Nat} (hb1 : bc' + 1 ≤ bc) (hb2 : bs' + n ≤ bs) (kk : ∀ a : Nat, G a = none → b0 ≤ a → GW p l e R s m args below meth c D b0 nL Q (gup G a (jA D n (fun _ => 0))) bc' bs' q lv (.ref a :: st)) : GW p l e R s m args below meth c D b0 nL Q G bc bs pc lv (.int (iI (n : Int)) :: st) := by
  subst hq
  intro H locs ls cells slots h1 h2 hg hl
  have hz : ((iI (n : Int)).toNatClampNeg : Int) = n := iI_clamp (by omega) (by omega)
  have hz2 : (iI (n : Int)).toNatClampNeg = n := by omega
  refine va_newaK hc.1 hc.2.1 (atype := .long) (hc.2.2.2.2.1 _ harr) rfl d rfl (fun h => by have := (iI_lt (by omega) (show rI 0 by decide)).mp h; omega) hz2 (by show n * 8 ≤ _; omega) (by omega) (by omega) rfl fun H1 cA e1 z1 o1 hAr hNm => ?_
  have hb : b0 ≤ H.size := Nat.le_trans hc.2.2.2.2.2.2.2.1 hg.2.1
  have hcA : cA = D.1 (100 + 1) := Option.some.inj (hNm.symm.trans (hc.2.2.2.2.2.2.2.2.1.1.2 1 _ rfl).2)
  subst hcA
  exact kk H.size (gs_none hg) hb H1 locs ls (cells + 1) (slots + n) (by omega) (by omega) (gs_new hg hb e1 z1 o1) hl
theorem gw_newb (hc : cx p s m args meth c D X b0 own cc nL ret) {n : Nat} (d : decode cc pc = .ok (.newarray .byte, 2)) (hq : pc + 2 = q) (harr : Cond.arrayClass .byte ∈ lw_all) (hn : n < 60000000) {bc' bs' : Nat} (hb1 : bc' + 1 ≤ bc) (hb2 : bs' + n ≤ bs) (kk : ∀ a : Nat, G a = none → b0 ≤ a → GW p l e R s m args below meth c D b0 nL Q (gup G a (bA D n (fun _ => 0))) bc' bs' q lv (.ref a :: st)) : GW p l e R s m args below meth c D b0 nL Q G bc bs pc lv (.int (iI (n : Int)) :: st) := by
  subst hq
  intro H locs ls cells slots h1 h2 hg hl
  have hz : ((iI (n : Int)).toNatClampNeg : Int) = n := iI_clamp (by omega) (by omega)
  have hz2 : (iI (n : Int)).toNatClampNeg = n := by omega
  refine va_newaK hc.1 hc.2.1 (atype := .byte) (hc.2.2.2.2.1 _ harr) rfl d rfl (fun h => by have := (iI_lt (by omega) (show rI 0 by decide)).mp h; omega) hz2 (by show n * 1 ≤ _; omega) (by omega) (by omega) rfl fun H1 cA e1 z1 o1 hAr hNm => ?_
  have hb : b0 ≤ H.size := Nat.le_trans hc.2.2.2.2.2.2.2.1 hg.2.1
  have hcA : cA = D.1 (100 + 2) := Option.some.inj (hNm.symm.trans (hc.2.2.2.2.2.2.2.2.1.1.2 2 _ rfl).2)
  subst hcA
  exact kk H.size (gs_none hg) hb H1 locs ls (cells + 1) (slots + n) (by omega) (by omega) (gs_new hg hb e1 z1 o1) hl
theorem gw_newz (hc : cx p s m args meth c D X b0 own cc nL ret) {n : Nat} (d : decode cc pc = .ok (.newarray .boolean, 2)) (hq : pc + 2 = q) (harr : Cond.arrayClass .boolean ∈ lw_all) (hn : n < 60000000) {bc' bs' : Nat} (hb1 : bc' + 1 ≤ bc) (hb2 : bs' + n ≤ bs) (kk : ∀ a : Nat, G a = none → b0 ≤ a → GW p l e R s m args below meth c D b0 nL Q (gup G a (zA D n (fun _ => 0))) bc' bs' q lv (.ref a :: st)) : GW p l e R s m args below meth c D b0 nL Q G bc bs pc lv (.int (iI (n : Int)) :: st) := by
  subst hq
  intro H locs ls cells slots h1 h2 hg hl
  have hz : ((iI (n : Int)).toNatClampNeg : Int) = n := iI_clamp (by omega) (by omega)
  have hz2 : (iI (n : Int)).toNatClampNeg = n := by omega
  refine va_newaK hc.1 hc.2.1 (atype := .boolean) (hc.2.2.2.2.1 _ harr) rfl d rfl (fun h => by have := (iI_lt (by omega) (show rI 0 by decide)).mp h; omega) hz2 (by show n * 1 ≤ _; omega) (by omega) (by omega) rfl fun H1 cA e1 z1 o1 hAr hNm => ?_
  have hb : b0 ≤ H.size := Nat.le_trans hc.2.2.2.2.2.2.2.1 hg.2.1
  have hcA : cA = D.1 (100 + 3) := Option.some.inj (hNm.symm.trans (hc.2.2.2.2.2.2.2.2.1.1.2 3 _ rfl).2)
  subst hcA
  exact kk H.size (gs_none hg) hb H1 locs ls (cells + 1) (slots + n) (by omega) (by omega) (gs_new hg hb e1 z1 o1) hl
theorem gw_newq (hc : cx p s m args meth c D X b0 own cc nL ret) {n index : Nat} (d : decode cc pc = .ok (.anewarray index, 3)) (hq : pc + 3 = q) (hcl : Cond.classLink own index "java/lang/Object" ∈ lw_all) (hover : Cond.arrayOver (.object "java/lang/Object") ∈ lw_tbl) (hn : n < 60000000) {bc' bs' : Nat} (hb1 : bc' + 1 ≤ bc) (hb2 : bs' + n ≤ bs) (kk : ∀ a : Nat, G a = none → b0 ≤ a → GW p l e R s m args below meth c D b0 nL Q (gup G a (qA D n (fun _ => none))) bc' bs' q lv (.ref a :: st)) : GW p l e R s m args below meth c D b0 nL Q G bc bs pc lv (.int (iI (n : Int)) :: st) := by
  subst hq
  intro H locs ls cells slots h1 h2 hg hl
  have hz : ((iI (n : Int)).toNatClampNeg : Int) = n := iI_clamp (by omega) (by omega)
  have hz2 : (iI (n : Int)).toNatClampNeg = n := by omega
  refine W.anew hc.1 hc.2.1 hc.2.2.2.1 (hc.2.2.2.2.1 _ hcl) (va_AO.use (hc.2.2.2.2.2.2.2.2.1.2 _ hover rfl)) rfl d rfl (fun h => by have := (iI_lt (by omega) (show rI 0 by decide)).mp h; omega) (by rw [hz2]; omega) (by omega) (by rw [hz2]; omega) fun cA kA comp f1 f2 f3 f4 => ?_
  have hb : b0 ≤ H.size := Nat.le_trans hc.2.2.2.2.2.2.2.1 hg.2.1
  obtain ⟨kA', comp', g1, g2, g3, g4⟩ := (hc.2.2.2.2.2.2.2.2.1.1.2 4 _ rfl).2
  have hcA : cA = D.1 (100 + 4) := Option.some.inj (f1.symm.trans g4)
  subst hcA
  rw [hz2]
  refine kk H.size (gs_none hg) hb _ locs ls (cells + 1) (slots + n) (by omega) (by omega) (gs_new hg hb ?_ (by rw [Array.size_push]) (fun q hq => by rw [Array.getElem?_push, if_neg (Nat.ne_of_lt hq)])) hl
  show (H.push _)[H.size]? = some (arrV (D.1 (100 + 4)) n (fun _ : Nat => va_rf none))
  rw [Array.getElem?_push_size, ← arrV_new]
  rfl
theorem gw_newh (hc : cx p s m args meth c D X b0 own cc nL ret) {n index : Nat} (d : decode cc pc = .ok (.anewarray index, 3)) (hq : pc + 3 = q) (hcl : Cond.classLink own index "EnergyDiscs$House" ∈ lw_all) (hover : Cond.arrayOver (.object "EnergyDiscs$House") ∈ lw_tbl) (hn : n < 60000000) {bc' bs' : Nat} (hb1 : bc' + 1 ≤ bc) (hb2 : bs' + n ≤ bs) (kk : ∀ a : Nat, G a = none → b0 ≤ a → GW p l e R s m args below meth c D b0 nL Q (gup G a (hA D n (fun _ => none))) bc' bs' q lv (.ref a :: st)) : GW p l e R s m args below meth c D b0 nL Q G bc bs pc lv (.int (iI (n : Int)) :: st) := by
  subst hq
  intro H locs ls cells slots h1 h2 hg hl
  have hz : ((iI (n : Int)).toNatClampNeg : Int) = n := iI_clamp (by omega) (by omega)
  have hz2 : (iI (n : Int)).toNatClampNeg = n := by omega
  refine W.anew hc.1 hc.2.1 hc.2.2.2.1 (hc.2.2.2.2.1 _ hcl) (va_AO.use (hc.2.2.2.2.2.2.2.2.1.2 _ hover rfl)) rfl d rfl (fun h => by have := (iI_lt (by omega) (show rI 0 by decide)).mp h; omega) (by rw [hz2]; omega) (by omega) (by rw [hz2]; omega) fun cA kA comp f1 f2 f3 f4 => ?_
  have hb : b0 ≤ H.size := Nat.le_trans hc.2.2.2.2.2.2.2.1 hg.2.1
  obtain ⟨kA', comp', g1, g2, g3, g4⟩ := (hc.2.2.2.2.2.2.2.2.1.1.2 5 _ rfl).2
  have hcA : cA = D.1 (100 + 5) := Option.some.inj (f1.symm.trans g4)
  subst hcA
  rw [hz2]
  refine kk H.size (gs_none hg) hb _ locs ls (cells + 1) (slots + n) (by omega) (by omega) (gs_new hg hb ?_ (by rw [Array.size_push]) (fun q hq => by rw [Array.getElem?_push, if_neg (Nat.ne_of_lt hq)])) hl
  show (H.push _)[H.size]? = some (arrV (D.1 (100 + 5)) n (fun _ : Nat => va_rf none))
  rw [Array.getElem?_push_size, ← arrV_new]
  rfl
theorem gw_objInit (hc : cx p s m args meth c D X b0 own cc nL ret) {a index : Nat} (d : decode cc pc = .ok (.invokespecial index, 3)) (hq : pc + 3 = q) (hlink : Cond.methodLink own index objectInit ∈ lw_all) (hf : 1 ≤ R.frames) (hlo : (st.map fun v => v.category).sum + 12 ≤ R.locals) (kk : GW p l e R s m args below meth c D b0 nL Q G bc bs q lv st) : GW p l e R s m args below meth c D b0 nL Q G bc bs pc lv (.ref a :: st) := by
  subst hq
  intro H locs ls cells slots h1 h2 hg hl
  have hw := hc.2.2.2.2.1
  exact W.objInit hc.1 hc.2.1 hc.2.2.2.1 (hw _ hlink) (hw _ q_oinst) (hw _ q_ocode) rfl (by rw [hc.2.2.1]; exact hl.1) rfl d hf (by show 2 * 0 + _ + _ ≤ _; omega) (kk H locs ls cells slots h1 h2 hg hl)
end GWC
