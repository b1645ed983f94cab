/-! ===== THE GHOST HEAP: numbers, overlays ===== -/
set_option maxRecDepth 100000
def iI (z : Int) : Int32 := Int32.ofInt z
def jI (z : Int) : Int64 := Int64.ofInt z
abbrev gM : Type := Nat → Option va_E
def gup (G : gM) (a : Nat) (e : va_E) : gM := fun q => if q = a then some e else G q
theorem gup_s {G : gM} {a : Nat} {e : va_E} : gup G a e a = some e := by simp [gup]
theorem gup_n {G : gM} {a q : Nat} {e : va_E} (h : q ≠ a) : gup G a e q = G q := by simp [gup, h]
theorem gup_gup {G : gM} {a : Nat} {e e' : va_E} : gup (gup G a e) a e' = gup G a e' := by
  funext q
  by_cases h : q = a <;> simp [gup, h]
theorem gup_id {G : gM} {a : Nat} {e : va_E} (h : G a = some e) : gup G a e = G := by
  funext q
  by_cases hq : q = a
  · subst hq; rw [gup_s, h]
  · rw [gup_n hq]
theorem gup_comm {G : gM} {a b : Nat} {e e' : va_E} (h : a ≠ b) : gup (gup G a e) b e' = gup (gup G b e') a e := by
  funext q
  by_cases hq : q = b
  · subst hq; rw [gup_s, gup_n (Ne.symm h), gup_s]
  · rw [gup_n hq]
    by_cases ha : q = a
    · subst ha; rw [gup_s, gup_s]
    · rw [gup_n ha, gup_n ha, gup_n hq]
/-- explicit cells over a background -/
def OV : va_W → gM → gM
  | [], G => G
  | (a, e) :: ws, G => gup (OV ws G) a e
def ovA (ws : va_W) : List Nat := ws.map (·.1)
theorem ov_get {ws : va_W} {G : gM} {as : List Nat} (hn : as.Nodup) (ha : ovA ws = as) {k a : Nat} {e : va_E} (h : ws[k]? = some (a, e)) : OV ws G a = some e := by
  subst ha
  induction ws generalizing k with
  | nil => simp at h
  | cons x ws ih =>
    obtain ⟨b, e'⟩ := x
    have hn' : b ∉ ovA ws ∧ (ovA ws).Nodup := List.nodup_cons.mp hn
    cases k with
    | zero => cases h; exact gup_s
    | succ k =>
      rw [List.getElem?_cons_succ] at h
      have hm : a ∈ ovA ws := List.mem_map.mpr ⟨(a, e), List.mem_of_getElem? h, rfl⟩
      have hne : a ≠ b := fun z => hn'.1 (by rw [← z]; exact hm)
      show gup (OV ws G) b e' a = some e
      rw [gup_n hne]
      exact ih h hn'.2
theorem ov_set {ws ws' : va_W} {G : gM} {as : List Nat} (hn : as.Nodup) (ha : ovA ws = as) {k a : Nat} {e e' : va_E} (h : ws[k]? = some (a, e)) (hs : ws.set k (a, e') = ws') : gup (OV ws G) a e' = OV ws' G := by
  subst ha
  subst hs
  induction ws generalizing k with
  | nil => simp at h
  | cons x ws ih =>
    obtain ⟨b, f⟩ := x
    have hn' : b ∉ ovA ws ∧ (ovA ws).Nodup := List.nodup_cons.mp hn
    cases k with
    | zero => cases h; exact gup_gup
    | succ k =>
      rw [List.getElem?_cons_succ] at h
      have hm : a ∈ ovA ws := List.mem_map.mpr ⟨(a, e), List.mem_of_getElem? h, rfl⟩
      have hne : b ≠ a := fun z => hn'.1 (by rw [z]; exact hm)
      show gup (gup (OV ws G) b f) a e' = gup (OV (ws.set k (a, e')) G) b f
      rw [gup_comm hne, ih h hn'.2]
theorem ov_self {ws : va_W} {G : gM} (h : ∀ q ∈ ws, G q.1 = some q.2) : OV ws G = G := by
  induction ws with
  | nil => rfl
  | cons x ws ih =>
    obtain ⟨b, e⟩ := x
    show gup (OV ws G) b e = G
    rw [ih (fun q hq => h q (List.mem_cons_of_mem _ hq))]
    exact gup_id (h (b, e) List.mem_cons_self)
theorem ov_out {ws : va_W} {G : gM} {q : Nat} (h : q ∉ ovA ws) : OV ws G q = G q := by
  induction ws with
  | nil => rfl
  | cons x ws ih =>
    obtain ⟨b, e⟩ := x
    have h' : q ≠ b ∧ q ∉ ovA ws := by
      constructor
      · intro z; exact h (by rw [z]; exact List.mem_cons_self)
      · intro z; exact h (List.mem_cons_of_mem _ z)
    show gup (OV ws G) b e q = G q
    rw [gup_n h'.1]
    exact ih h'.2
/-! ===== the constant world ===== -/
abbrev clE : List vw_C := [(RX0, TX0, 4), (RX1, TX1, 5), (RX2, TX2, 7), (RX3, TX3, 17), (RX4, TX4, 3), (RX5, TX5, 4), (RX7, TX7, 3), (RJ2, TJ2, 3), (RJ4, TJ4, 4), (RJ9, TJ9, 4)]
abbrev tyE (D : va_G) : List (ClassId × FieldType) := [(D.1 100, .int), (D.1 101, .long), (D.1 102, .byte), (D.1 103, .boolean), (D.1 104, .object "java/lang/Object"), (D.1 105, .object "EnergyDiscs$House")]
/-- cells: objects by their class's place, arrays by their contents -/
abbrev oE (ci : Nat) (fs : List Value) : va_E := .inr (ci, fs)
abbrev iA (D : va_G) (n : Nat) (f : Int → Int) : va_E := .inl (D.1 100, n, .inl (fun j : Nat => iI (f (j : Int))))
abbrev jA (D : va_G) (n : Nat) (f : Int → Int) : va_E := .inl (D.1 101, n, .inr (.inl (fun j : Nat => jI (f (j : Int)))))
abbrev bA (D : va_G) (n : Nat) (f : Int → Int) : va_E := .inl (D.1 102, n, .inl (fun j : Nat => iI (f (j : Int))))
abbrev zA (D : va_G) (n : Nat) (f : Int → Int) : va_E := .inl (D.1 103, n, .inl (fun j : Nat => iI (f (j : Int))))
abbrev qA (D : va_G) (n : Nat) (f : Int → Option Nat) : va_E := .inl (D.1 104, n, .inr (.inr (.inr (.inr (fun j : Nat => f (j : Int))))))
abbrev hA (D : va_G) (n : Nat) (f : Int → Option Nat) : va_E := .inl (D.1 105, n, .inr (.inr (.inr (.inr (fun j : Nat => f (j : Int))))))
/-- a function, changed in one place -/
def fu {α : Type} (f : Int → α) (k : Int) (v : α) : Int → α := fun i => if i = k then v else f i
theorem fu_s {α : Type} {f : Int → α} {k : Int} {v : α} : fu f k v k = v := by simp [fu]
theorem fu_n {α : Type} {f : Int → α} {k i : Int} {v : α} (h : i ≠ k) : fu f k v i = f i := by simp [fu, h]
/-- a lambda's object, that is never written: its class, the one reference and the one or three numbers that it holds (coded as an array of a kind that nobody has) -/
def lmC (c : ClassId) (n : Nat) (f : Nat → UInt32) : Cell := { cls := c, slots := if f 0 = 1 then #[.ref n, .int (f 1).toInt32] else #[.ref n, .int (f 1).toInt32, .int (f 2).toInt32, .int (f 3).toInt32], vm := .none }
/-- what a ghost cell says of the heap -/
def cAt (D : va_G) (q : Nat × va_E) (H : Heap) : Prop := match q.2 with
  | .inl (c, n, .inr (.inr (.inl f))) => H[q.1]? = some (lmC c n f)
  | _ => va_at D clE q H
theorem cAt.kept {D : va_G} {q : Nat × va_E} {H H1 : Heap} (h : cAt D q H) (hq : H1[q.1]? = H[q.1]?) : cAt D q H1 := by
  obtain ⟨a, e⟩ := q
  rcases e with ⟨c, n, f | f | f | f | f⟩ | o
  · exact va_at.kept (D := D) (cl := clE) (q := (a, .inl (c, n, .inl f))) (H := H) (H1 := H1) h hq
  · exact va_at.kept (D := D) (cl := clE) (q := (a, .inl (c, n, .inr (.inl f)))) (H := H) (H1 := H1) h hq
  · exact hq.trans h
  · exact va_at.kept (D := D) (cl := clE) (q := (a, .inl (c, n, .inr (.inr (.inr (.inl f)))))) (H := H) (H1 := H1) h hq
  · exact va_at.kept (D := D) (cl := clE) (q := (a, .inl (c, n, .inr (.inr (.inr (.inr f)))))) (H := H) (H1 := H1) h hq
  · exact va_at.kept (D := D) (cl := clE) (q := (a, .inr o)) (H := H) (H1 := H1) h hq
theorem cAt.lt {D : va_G} {q : Nat × va_E} {H : Heap} (h : cAt D q H) : q.1 < H.size := by
  obtain ⟨a, e⟩ := q
  rcases e with ⟨c, n, f | f | f | f | f⟩ | o
  · exact va_at.lt (D := D) (cl := clE) (q := (a, .inl (c, n, .inl f))) (H := H) h
  · exact va_at.lt (D := D) (cl := clE) (q := (a, .inl (c, n, .inr (.inl f)))) (H := H) h
  · exact (Array.getElem?_eq_some_iff.mp h).1
  · exact va_at.lt (D := D) (cl := clE) (q := (a, .inl (c, n, .inr (.inr (.inr (.inl f)))))) (H := H) h
  · exact va_at.lt (D := D) (cl := clE) (q := (a, .inl (c, n, .inr (.inr (.inr (.inr f)))))) (H := H) h
  · exact va_at.lt (D := D) (cl := clE) (q := (a, .inr o)) (H := H) h
def gh (D : va_G) (b0 : Nat) (G : gM) (H : Heap) : Prop := ∀ a e, G a = some e → cAt D (a, e) H ∧ b0 ≤ a
def rideW : Cond → Bool
  | .fieldLinkNest .. => true
  | .methodLinkNest .. => true
  | .castable .. => true
  | .declares .. => true
  | .publicMethod .. => true
  | .privateMethod .. => true
  | .unhidden .. => true
  | .interfaceMethod c c2 n d => decide (c = c2) && decide (c ≠ "java/lang/invoke/MethodHandle") && decide (c ≠ "java/lang/invoke/VarHandle") && decide ((Cond.declares ⟨c, n, d⟩) ∈ lw_tbl)
  | .arrayOver (.object _) => true
  | _ => false
def kwA (D : va_G) (U : State) : Prop := va_K D clE (tyE D) U ∧ ∀ w ∈ lw_tbl, rideW w = true → va_Nw w U
abbrev bz (b0 : Nat) : Nat → Prop := fun q => b0 ≤ q
abbrev aL : String := "java/util/ArrayList"
abbrev dObj : String := "[Ljava/lang/Object;"
def leastF : Int → Int := fun i => if i = 3 then 100 else 0
def mostF : Int → Int := fun i => if i = 1 then 9 else if i = 2 then 1 else if i = 3 then 5000 else 99
def onesF : Int → Int := fun i => 48 + i % 10
def tensF : Int → Int := fun i => 48 + i / 10
/-- statics that nobody writes, the constant arrays behind them -/
def kwB (X : Nat → Nat) (b0 : Nat) (U : State) (H : Heap) : Prop :=
  va_Z "java/lang/String" "COMPACT_STRINGS" "Z" (.int 1) (bz b0) U H ∧
  va_Z aL "DEFAULTCAPACITY_EMPTY_ELEMENTDATA" dObj (.ref (X 0)) (bz b0) U H ∧ va_T (.object "java/lang/Object") (X 0) 0 (fun _ => .null) (bz b0) U H ∧
  va_Z "EnergyDiscs" "LEAST" "[I" (.ref (X 1)) (bz b0) U H ∧ va_T .int (X 1) 6 (fun j => .int (iI (leastF j))) (bz b0) U H ∧
  va_Z "EnergyDiscs" "MOST" "[I" (.ref (X 2)) (bz b0) U H ∧ va_T .int (X 2) 6 (fun j => .int (iI (mostF j))) (bz b0) U H ∧
  va_Z "java/lang/Integer" "DigitOnes" "[B" (.ref (X 3)) (bz b0) U H ∧ va_T .byte (X 3) 100 (fun j => .int (iI (onesF j))) (bz b0) U H ∧
  va_Z "java/lang/Integer" "DigitTens" "[B" (.ref (X 4)) (bz b0) U H ∧ va_T .byte (X 4) 100 (fun j => .int (iI (tensF j))) (bz b0) U H ∧
  va_Z "jdk/internal/util/Preconditions" "SIOOBE_FORMATTER" "Ljava/util/function/BiFunction;" (.ref (X 5)) (bz b0) U H ∧
  va_Mi dObj (X 6) U
/-- the eight texts: meter load turn pass tamper visit, the empty one, "!" -/
def txE : Nat → String × Int × List Int := fun k => match k with
  | 0 => ("meter", 103787401, [109, 101, 116, 101, 114])
  | 1 => ("load", 3327206, [108, 111, 97, 100])
  | 2 => ("turn", 3571837, [116, 117, 114, 110])
  | 3 => ("pass", 3433489, [112, 97, 115, 115])
  | 4 => ("tamper", -881046147, [116, 97, 109, 112, 101, 114])
  | 5 => ("visit", 112217419, [118, 105, 115, 105, 116])
  | 6 => ("", 0, [])
  | _ => ("!", 33, [33])
def strE (X : Nat → Nat) (b0 : Nat) (U : State) (H : Heap) (k : Nat) : Prop :=
  va_O "java/lang/String" (X (10 + k)) (bz b0) U H ∧ va_OF "java/lang/String" "coder" "B" (.int 0) (X (10 + k)) (bz b0) U H ∧ va_OF "java/lang/String" "value" "[B" (.ref (X (20 + k))) (X (10 + k)) (bz b0) U H ∧
  va_OF "java/lang/String" "hash" "I" (.int (iI (txE k).2.1)) (X (10 + k)) (bz b0) U H ∧ va_OF "java/lang/String" "hashIsZero" "Z" (.int (if k = 6 then 1 else 0)) (X (10 + k)) (bz b0) U H ∧
  va_T .byte (X (20 + k)) (txE k).2.2.length (fun j => .int (iI ((txE k).2.2.getD j 0))) (bz b0) U H
/-- where the texts stand as constants: class, entry, text -/
def ldE : List (String × Nat × Nat) := [("EnergyDiscs", 188, 7), ("EnergyDiscs", 190, 6), ("EnergyDiscs$Reader", 96, 6), ("EnergyDiscs$Sign", 17, 0), ("EnergyDiscs$Sign", 19, 1), ("EnergyDiscs$Sign", 21, 2), ("EnergyDiscs$Sign", 23, 3), ("EnergyDiscs$Sign", 25, 4), ("EnergyDiscs$Sign", 27, 5), ("EnergyDiscs$Sign", 29, 6), ("EnergyDiscs$Reader", 83, 0), ("EnergyDiscs$Reader", 70, 1), ("EnergyDiscs$Reader", 89, 2), ("EnergyDiscs$Reader", 91, 3), ("EnergyDiscs", 336, 0), ("EnergyDiscs", 340, 1), ("EnergyDiscs", 342, 2), ("EnergyDiscs", 344, 3), ("EnergyDiscs", 345, 4)]
def kwC (X : Nat → Nat) (b0 : Nat) (U : State) (H : Heap) : Prop :=
  (∀ k, k < 8 → strE X b0 U H k) ∧ (∀ i j, i < 8 → j < 8 → X (10 + i) = X (10 + j) → i = j) ∧ ∀ q ∈ ldE, vk_R q.1 q.2.1 (txE q.2.2).1 (X (10 + q.2.2)) U
/-- a lambda's site, linked: what the tables say of it -/
def lamAt (cK : ClassId) (x : MethodName) (pc index : Nat) (σ : Lambda.Shape) (U : State) : Prop :=
  ∃ (m : MethodId) (k : Class) (cf : ClassFile) (i0 p0 : Nat), U.methodNamed? x = some m ∧ U.vm.classes[m.cls]? = some k ∧ k.cf = some cf ∧ (k.callSites.find? fun y => y.1 == m.idx && y.2.1 == pc) = some (i0, p0, .makes cK) ∧ Lambda.shapeOf? cf index = some σ ∧
    Lambda.isMade { classPath := fun _ => none } U.vm m.cls σ cK = true ∧ U.lambdaCallable σ cK = true
def lamW (cK : ClassId) (w : Cond) (U : State) : Prop := match w with
  | .lambdaSite x pc index σ => lamAt cK x pc index σ U
  | _ => True
abbrev yRat : MethodName := ⟨"EnergyDiscs$Reader", "at", "(I)C"⟩
abbrev ySat : MethodName := ⟨"EnergyDiscs$Sign", "at", "(I)C"⟩
def kwD (X : Nat → Nat) (U : State) : Prop := lamW (X 7) siteWord_1_1 U ∧ lamW (X 8) siteWord_1_2 U ∧ va_Nw (.methodLink "EnergyDiscs$Reader" 47 yRat) U ∧ va_Nw (.sameMethod "EnergyDiscs$Reader" "EnergyDiscs$Sign" "at" "(I)C") U ∧ va_Nw (.landsInDefault "EnergyDiscs$Reader" yRat ySat) U
def kw (D : va_G) (X : Nat → Nat) (b0 : Nat) (U : State) (H : Heap) : Prop := b0 ≤ H.size ∧ kwA D U ∧ kwB X b0 U H ∧ kwC X b0 U H ∧ kwD X U

