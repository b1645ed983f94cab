/-! ===== THE JDK: lists ===== -/
set_option maxRecDepth 100000
abbrev eA (r0 : Nat) (G0 : gM) : Option Value → gM → Prop := pA fun r G' => r = r0 ∧ G' = G0
theorem nz {z : Int} (h : z = 0 ∨ z = 1) : narrow .boolean (.int (iI z)) = .int (iI z) ∧ fits .boolean (.int (iI z)) = true := by rcases h with rfl | rfl <;> exact ⟨rfl, rfl⟩
/-- a list's cell -/
abbrev alO (mc : Int) (ar : Nat) (n : Int) : va_E := oE 7 [.int (iI mc), .ref ar, .int (iI n)]
theorem shr_1 {z : Int} (h0 : 0 ≤ z) (h : z < 2147483648) : iI z >>> (iI 1 &&& 31) = iI (z / 2) := by
  have e : iI 1 &&& 31 = 1 := by decide
  rw [e]
  apply Int32.toInt_inj.mp
  have e2 : (iI z >>> 1).toBitVec = (iI z).toBitVec.sshiftRight 1 := by
    rw [Int32.toBitVec_shiftRight]
    rfl
  have e3 : (iI z >>> 1).toInt = (iI z).toInt >>> 1 := by
    show (iI z >>> 1).toBitVec.toInt = _
    rw [e2, BitVec.toInt_sshiftRight]
    rfl
  rw [e3, iI_toInt ⟨by omega, by omega⟩, iI_toInt ⟨by omega, by omega⟩, Int.shiftRight_eq_div_pow]
  rfl
section GWM
variable {p : Program} {l : Launch} {e : Env} {R : Room} {s : State} {m : MethodId} {args : Array Value} {below : List Frame} {meth : Method} {c : Code} {Q : State → Prop}
variable {D : va_G} {X : Nat → Nat} {b0 nL bc bs pc q : Nat} {own : String} {cc : ByteArray} {ret : Option FieldType} {G : gM} {lv lv' lv1 : List (Option Value)} {st : List Value}

theorem gw_mmax (hc : cx p s m args meth c D X b0 own cc nL ret) {index : Nat} {x y : Int} (d : decode cc pc = .ok (.invokestatic index, 3)) (hq : pc + 3 = q) (hlink : Cond.methodLink own index Lib.Math.max.name ∈ lw_all) (hx : rI x) (hy : rI y) (hfr : 1 ≤ R.frames) (hlo : (st.map fun v => v.category).sum + 13 ≤ R.locals) (kk : GW p l e R s m args below meth c D b0 nL Q G bc bs q lv (.int (iI (if x < y then y else x)) :: st)) : GW p l e R s m args below meth c D b0 nL Q G bc bs pc lv (.int (iI y) :: .int (iI x) :: st) := by
  subst hq
  intro H locs ls cells slots h1 h2 hg hl
  have hw := hc.2.2.2.2.1
  refine va_mmax hc.1 hc.2.1 (by rw [hc.2.2.1]; exact hl.1.symm) hc.2.2.2.1 (hw _ hlink) (hw _ q373) (hw _ q89) (hw _ q374) hfr hlo (by omega) (by omega) d ?_
  rw [show (if iI x < iI y then iI y else iI x) = iI (if x < y then y else x) from (by
    by_cases h : x < y
    · rw [if_pos h, if_pos ((iI_lt hx hy).mpr h)]
    · rw [if_neg h, if_neg (fun z => h ((iI_lt hx hy).mp z))])]
  exact kk H locs ls cells slots h1 h2 hg hl
theorem gw_mmin (hc : cx p s m args meth c D X b0 own cc nL ret) {index : Nat} {x y : Int} (d : decode cc pc = .ok (.invokestatic index, 3)) (hq : pc + 3 = q) (hlink : Cond.methodLink own index Lib.Math.min.name ∈ lw_all) (hx : rI x) (hy : rI y) (hfr : 1 ≤ R.frames) (hlo : (st.map fun v => v.category).sum + 13 ≤ R.locals) (kk : GW p l e R s m args below meth c D b0 nL Q G bc bs q lv (.int (iI (if y < x then y else x)) :: st)) : GW p l e R s m args below meth c D b0 nL Q G bc bs pc lv (.int (iI y) :: .int (iI x) :: st) := by
  subst hq
  intro H locs ls cells slots h1 h2 hg hl
  have hw := hc.2.2.2.2.1
  refine va_mmin hc.1 hc.2.1 (by rw [hc.2.2.1]; exact hl.1.symm) hc.2.2.2.1 (hw _ hlink) (hw _ q404) (hw _ q89) (hw _ q405) hfr hlo (by omega) (by omega) d ?_
  rw [show (if iI y < iI x then iI y else iI x) = iI (if y < x then y else x) from (by
    by_cases h : y < x
    · rw [if_pos h, if_pos ((iI_lt hy hx).mpr h)]
    · rw [if_neg h, if_neg (fun z => h ((iI_lt hy hx).mp z))])]
  exact kk H locs ls cells slots h1 h2 hg hl
end GWM
set_option maxHeartbeats 4000000 in
theorem m_J8_checkIndex {l : Launch} {D : va_G} {X : Nat → Nat} {b0 : Nat} {G : gM} {x y : Int} (hx : 0 ≤ x ∧ x < y) (hy : rI y) : gMet l D X b0 yJ8_checkIndex cJ8_checkIndex 3 (some FieldType.int) (rmE 0 0 0) [.int (iI x), .int (iI y), .null] G (eI x G) := by
  refine gm_start (own := "jdk/internal/util/Preconditions") (lv := [some (.int (iI x)), some (.int (iI y)), some (.null)]) (by decide +kernel) rfl (Nat.le_of_ble_eq_true rfl) rfl (fun p_ e_ s_ m_ args_ below_ meth_ c_ hc hnm => ?_)
  refine gw_iload_n (q := 1) hc dJ8_checkIndex_0 rfl rfl xg_0 ?_
  refine gw_if_lt  (q := 4) (t := 9) hc dJ8_checkIndex_1 rfl (by decide) (by omega) (fun c1 => ?_) (fun c1 => ?_)
  · exfalso; omega
  · skip
    refine gw_iload_n (q := 5) hc dJ8_checkIndex_4 rfl rfl xg_0 ?_
    refine gw_iload_n (q := 6) hc dJ8_checkIndex_5 rfl rfl xg_1 ?_
    refine gw_icmp_lt  (q := 9) (t := 16) hc dJ8_checkIndex_6 rfl (by decide) (by omega) (by omega) (fun c6 => ?_) (fun c6 => ?_)
    · skip
      refine gw_iload_n (q := 17) hc dJ8_checkIndex_16 rfl rfl xg_0 ?_
      exact gw_iret hc dJ8_checkIndex_17 ⟨_, rfl, ⟨rfl, rfl⟩⟩
    · exfalso; omega

set_option maxHeartbeats 4000000 in
theorem m_J8_checkIndex_X {l : Launch} {D : va_G} {X : Nat → Nat} {b0 : Nat} {G : gM} {x y : Int} (hx : 0 ≤ x ∧ x < y) (hy : rI y) : gMet l D X b0 yJ8_checkIndex cJ8_checkIndex 3 (some FieldType.int) (rmE 0 0 0) [.int (iI x), .int (iI y), .ref (X 5)] G (eI x G) := by
  refine gm_start (own := "jdk/internal/util/Preconditions") (lv := [some (.int (iI x)), some (.int (iI y)), some (.ref (X 5))]) (by decide +kernel) rfl (Nat.le_of_ble_eq_true rfl) rfl (fun p_ e_ s_ m_ args_ below_ meth_ c_ hc hnm => ?_)
  refine gw_iload_n (q := 1) hc dJ8_checkIndex_0 rfl rfl xg_0 ?_
  refine gw_if_lt  (q := 4) (t := 9) hc dJ8_checkIndex_1 rfl (by decide) (by omega) (fun c1 => ?_) (fun c1 => ?_)
  · exfalso; omega
  · skip
    refine gw_iload_n (q := 5) hc dJ8_checkIndex_4 rfl rfl xg_0 ?_
    refine gw_iload_n (q := 6) hc dJ8_checkIndex_5 rfl rfl xg_1 ?_
    refine gw_icmp_lt  (q := 9) (t := 16) hc dJ8_checkIndex_6 rfl (by decide) (by omega) (by omega) (fun c6 => ?_) (fun c6 => ?_)
    · skip
      refine gw_iload_n (q := 17) hc dJ8_checkIndex_16 rfl rfl xg_0 ?_
      exact gw_iret hc dJ8_checkIndex_17 ⟨_, rfl, ⟨rfl, rfl⟩⟩
    · exfalso; omega

theorem mw_J8_checkIndex : mS yJ8_checkIndex cJ8_checkIndex 3 (some FieldType.int) 3 := ⟨⟨by decide +kernel, by decide +kernel, by decide +kernel⟩, q254, q84, q255⟩
set_option maxHeartbeats 4000000 in
theorem m_J7_checkIndex {l : Launch} {D : va_G} {X : Nat → Nat} {b0 : Nat} {G : gM} {x y : Int} (hx : 0 ≤ x ∧ x < y) (hy : rI y) : gMet l D X b0 yJ7_checkIndex cJ7_checkIndex 2 (some FieldType.int) (rmE 1 0 0) [.int (iI x), .int (iI y)] G (eI x G) := by
  refine gm_start (own := "java/util/Objects") (lv := [some (.int (iI x)), some (.int (iI y))]) (by decide +kernel) rfl (Nat.le_of_ble_eq_true rfl) rfl (fun p_ e_ s_ m_ args_ below_ meth_ c_ hc hnm => ?_)
  refine gw_iload_n (q := 1) hc dJ7_checkIndex_0 rfl rfl xg_0 ?_
  refine gw_iload_n (q := 2) hc dJ7_checkIndex_1 rfl rfl xg_1 ?_
  refine gw_null (q := 3) hc dJ7_checkIndex_2 rfl ?_
  refine gw_callS (q := 6) (bc' := 0) (bs' := 0) (As := [_, _, _]) hc dJ7_checkIndex_3 rfl q253 mw_J8_checkIndex rfl rfl (m_J8_checkIndex hx hy) ⟨Nat.le_of_ble_eq_true rfl, Nat.le_of_ble_eq_true rfl⟩ (Nat.le_of_ble_eq_true rfl) (Nat.le_of_ble_eq_true rfl) (Nat.le_of_ble_eq_true rfl) (goI fun r3 G3 h3 => ?_)
  obtain ⟨rfl, rfl⟩ := h3
  exact gw_iret hc dJ7_checkIndex_6 ⟨_, rfl, ⟨rfl, rfl⟩⟩

set_option maxHeartbeats 4000000 in
theorem m_J2_size {l : Launch} {D : va_G} {X : Nat → Nat} {b0 : Nat} {a ar : Nat} {mc n : Int} {G : gM} (hG : G a = some (alO mc ar n)) : gMet l D X b0 yJ2_size cJ2_size 1 (some FieldType.int) (rmE 0 0 0) [.ref a] G (eI n G) := by
  refine gm_start (own := "java/util/ArrayList") (lv := [some (.ref a)]) (by decide +kernel) rfl (Nat.le_of_ble_eq_true rfl) rfl (fun p_ e_ s_ m_ args_ below_ meth_ c_ hc hnm => ?_)
  refine gw_aload_n (q := 1) hc dJ2_size_0 rfl rfl xg_0 ?_
  refine gw_get (q := 4) hc dJ2_size_1 rfl cE_AL 2 (by decide) q129 (fun _ h => h) hG rfl ?_
  exact gw_iret hc dJ2_size_4 ⟨_, rfl, ⟨rfl, rfl⟩⟩

set_option maxHeartbeats 4000000 in
theorem m_J2_isEmpty {l : Launch} {D : va_G} {X : Nat → Nat} {b0 : Nat} {a ar : Nat} {mc n : Int} {G : gM} (hG : G a = some (alO mc ar n)) (hn : rI n) : gMet l D X b0 yJ2_isEmpty cJ2_isEmpty 1 (some FieldType.boolean) (rmE 0 0 0) [.ref a] G (eB (n = 0) G) := by
  refine gm_start (own := "java/util/ArrayList") (lv := [some (.ref a)]) (by decide +kernel) rfl (Nat.le_of_ble_eq_true rfl) rfl (fun p_ e_ s_ m_ args_ below_ meth_ c_ hc hnm => ?_)
  refine gw_aload_n (q := 1) hc dJ2_isEmpty_0 rfl rfl xg_0 ?_
  refine gw_get (q := 4) hc dJ2_isEmpty_1 rfl cE_AL 2 (by decide) q129 (fun _ h => h) hG rfl ?_
  refine gw_if_ne  (q := 7) (t := 11) hc dJ2_isEmpty_4 rfl (by decide) (by omega) (fun c4 => ?_) (fun c4 => ?_)
  · skip
    refine gw_iconst (q := 12) hc dJ2_isEmpty_11 rfl ?_
    exact gw_zret hc (by first | exact Or.inl rfl | exact Or.inr rfl | omega) dJ2_isEmpty_12 ⟨_, rfl, ⟨by omega, rfl⟩⟩
  · skip
    refine gw_iconst (q := 8) hc dJ2_isEmpty_7 rfl ?_
    refine gw_goto (q := 12) hc dJ2_isEmpty_8 (by decide) ?_
    exact gw_zret hc (by first | exact Or.inl rfl | exact Or.inr rfl | omega) dJ2_isEmpty_12 ⟨_, rfl, ⟨by omega, rfl⟩⟩

set_option maxHeartbeats 4000000 in
theorem m_J2_elementData {l : Launch} {D : va_G} {X : Nat → Nat} {b0 : Nat} {a ar : Nat} {mc n : Int} {cap : Nat} {f : Int → Option Nat} {G : gM} (hG : G a = some (alO mc ar n)) (hA : G ar = some (qA D cap f)) {b : Nat} {i : Int} (hi : 0 ≤ i ∧ i < n) (hc0 : n ≤ cap ∧ cap < 2000000) (hf : f i = some b) : gMet l D X b0 yJ2_elementData cJ2_elementData 2 (some (FieldType.object "java/lang/Object")) (rmE 0 0 0) [.ref a, .int (iI i)] G (eA b G) := by
  refine gm_start (own := "java/util/ArrayList") (lv := [some (.ref a), some (.int (iI i))]) (by decide +kernel) rfl (Nat.le_of_ble_eq_true rfl) rfl (fun p_ e_ s_ m_ args_ below_ meth_ c_ hc hnm => ?_)
  refine gw_aload_n (q := 1) hc dJ2_elementData_0 rfl rfl xg_0 ?_
  refine gw_get (q := 4) hc dJ2_elementData_1 rfl cE_AL 1 (by decide) q126 (fun _ h => h) hG rfl ?_
  refine gw_iload_n (q := 5) hc dJ2_elementData_4 rfl rfl xg_1 ?_
  refine gw_aald (q := 6) hc dJ2_elementData_5 rfl hA (by omega) (by omega) ?_
  rw [hf]
  exact gw_aret hc rfl (by first | exact Or.inl ⟨_, rfl⟩ | exact Or.inr ⟨_, rfl⟩) dJ2_elementData_6 ⟨_, rfl, ⟨rfl, rfl⟩⟩

theorem mw_J7_checkIndex : mS yJ7_checkIndex cJ7_checkIndex 2 (some FieldType.int) 2 := ⟨⟨by decide +kernel, by decide +kernel, by decide +kernel⟩, q251, q83, q252⟩
theorem mw_J2_elementData : mV "java/util/ArrayList" yJ2_elementData cJ2_elementData 2 (some (FieldType.object "java/lang/Object")) 1 := ⟨⟨rfl, by decide +kernel, by decide +kernel, by decide +kernel⟩, q339, q340, q77, q341⟩
set_option maxHeartbeats 4000000 in
theorem m_J2_get {l : Launch} {D : va_G} {X : Nat → Nat} {b0 : Nat} {a ar : Nat} {mc n : Int} {cap : Nat} {f : Int → Option Nat} {G : gM} (hG : G a = some (alO mc ar n)) (hA : G ar = some (qA D cap f)) {b : Nat} {i : Int} (hi : 0 ≤ i ∧ i < n) (hc0 : n ≤ cap ∧ cap < 2000000) (hf : f i = some b) : gMet l D X b0 yJ2_get cJ2_get 2 (some (FieldType.object "java/lang/Object")) (rmE 2 0 0) [.ref a, .int (iI i)] G (eA b G) := by
  refine gm_start (own := "java/util/ArrayList") (lv := [some (.ref a), some (.int (iI i))]) (by decide +kernel) rfl (Nat.le_of_ble_eq_true rfl) rfl (fun p_ e_ s_ m_ args_ below_ meth_ c_ hc hnm => ?_)
  refine gw_iload_n (q := 1) hc dJ2_get_0 rfl rfl xg_1 ?_
  refine gw_aload_n (q := 2) hc dJ2_get_1 rfl rfl xg_0 ?_
  refine gw_get (q := 5) hc dJ2_get_2 rfl cE_AL 2 (by decide) q129 (fun _ h => h) hG rfl ?_
  refine gw_callS (q := 8) (bc' := 0) (bs' := 0) (As := [_, _]) hc dJ2_get_5 rfl q250 mw_J7_checkIndex rfl rfl (m_J7_checkIndex hi (by omega)) ⟨Nat.le_of_ble_eq_true rfl, Nat.le_of_ble_eq_true rfl⟩ (Nat.le_of_ble_eq_true rfl) (Nat.le_of_ble_eq_true rfl) (Nat.le_of_ble_eq_true rfl) (goI fun r5 G5 h5 => ?_)
  obtain ⟨rfl, rfl⟩ := h5
  refine gw_pop (q := 9) hc dJ2_get_8 rfl rfl ?_
  refine gw_aload_n (q := 10) hc dJ2_get_9 rfl rfl xg_0 ?_
  refine gw_iload_n (q := 11) hc dJ2_get_10 rfl rfl xg_1 ?_
  refine gw_callV (q := 14) (bc' := 0) (bs' := 0) (As := [_]) hc dJ2_get_11 rfl q338 mw_J2_elementData (rc_o hc cE_AL hG) rfl rfl (m_J2_elementData hG hA hi hc0 hf) ⟨Nat.le_of_ble_eq_true rfl, Nat.le_of_ble_eq_true rfl⟩ (Nat.le_of_ble_eq_true rfl) (Nat.le_of_ble_eq_true rfl) (Nat.le_of_ble_eq_true rfl) (goA fun r11 G11 h11 => ?_)
  obtain ⟨rfl, rfl⟩ := h11
  exact gw_aret hc rfl (by first | exact Or.inl ⟨_, rfl⟩ | exact Or.inr ⟨_, rfl⟩) dJ2_get_14 ⟨_, rfl, ⟨rfl, rfl⟩⟩

set_option maxHeartbeats 4000000 in
theorem m_J0_init {l : Launch} {D : va_G} {X : Nat → Nat} {b0 : Nat} {a : Nat} {G : gM} : gMet l D X b0 yJ0_init cJ0_init 1 none (rmE 1 0 0) [.ref a] G (eV G) := by
  refine gm_start (own := "java/util/AbstractCollection") (lv := [some (.ref a)]) (by decide +kernel) rfl (Nat.le_of_ble_eq_true rfl) rfl (fun p_ e_ s_ m_ args_ below_ meth_ c_ hc hnm => ?_)
  refine gw_aload_n (q := 1) hc dJ0_init_0 rfl rfl xg_0 ?_
  refine gw_objInit (q := 4) hc dJ0_init_1 rfl q123 (Nat.le_of_ble_eq_true rfl) (Nat.le_of_ble_eq_true rfl) ?_
  exact gw_vret hc dJ0_init_4 ⟨rfl, rfl⟩

theorem mw_J0_init : mI yJ0_init cJ0_init 1 0 := ⟨⟨rfl, by decide +kernel, by decide +kernel, by decide +kernel⟩, q121, q75, q122⟩
set_option maxHeartbeats 4000000 in
theorem m_J1_init {l : Launch} {D : va_G} {X : Nat → Nat} {b0 : Nat} {a ar : Nat} {mc n : Int} {G : gM} (hG : G a = some (alO mc ar n)) : gMet l D X b0 yJ1_init cJ1_init 1 none (rmE 2 0 0) [.ref a] G (eV (gup G a (alO 0 ar n))) := by
  refine gm_start (own := "java/util/AbstractList") (lv := [some (.ref a)]) (by decide +kernel) rfl (Nat.le_of_ble_eq_true rfl) rfl (fun p_ e_ s_ m_ args_ below_ meth_ c_ hc hnm => ?_)
  refine gw_aload_n (q := 1) hc dJ1_init_0 rfl rfl xg_0 ?_
  refine gw_callI (q := 4) (bc' := 0) (bs' := 0) (As := []) hc dJ1_init_1 rfl q120 mw_J0_init rfl rfl (m_J0_init) ⟨Nat.le_of_ble_eq_true rfl, Nat.le_of_ble_eq_true rfl⟩ (Nat.le_of_ble_eq_true rfl) (Nat.le_of_ble_eq_true rfl) (Nat.le_of_ble_eq_true rfl) (goV fun G1 h1 => ?_)
  subst h1
  refine gw_aload_n (q := 5) hc dJ1_init_4 rfl rfl xg_0 ?_
  refine gw_iconst (q := 6) hc dJ1_init_5 rfl ?_
  refine gw_put (q := 9) hc dJ1_init_6 rfl cE_AL 0 (by decide) q130 (fun _ h => h) rfl hG ⟨rfl, rfl⟩ rfl (Nat.le_of_ble_eq_true rfl) ?_
  exact gw_vret hc dJ1_init_9 ⟨rfl, rfl⟩

set_option maxHeartbeats 4000000 in
theorem m_J1_init_N {l : Launch} {D : va_G} {X : Nat → Nat} {b0 : Nat} {a : Nat} {G : gM} {mc n : Int} (hG : G a = some (oE 7 [.int (iI mc), .null, .int (iI n)])) : gMet l D X b0 yJ1_init cJ1_init 1 none (rmE 2 0 0) [.ref a] G (eV (gup G a (oE 7 [.int (iI 0), .null, .int (iI n)]))) := by
  refine gm_start (own := "java/util/AbstractList") (lv := [some (.ref a)]) (by decide +kernel) rfl (Nat.le_of_ble_eq_true rfl) rfl (fun p_ e_ s_ m_ args_ below_ meth_ c_ hc hnm => ?_)
  refine gw_aload_n (q := 1) hc dJ1_init_0 rfl rfl xg_0 ?_
  refine gw_callI (q := 4) (bc' := 0) (bs' := 0) (As := []) hc dJ1_init_1 rfl q120 mw_J0_init rfl rfl (m_J0_init) ⟨Nat.le_of_ble_eq_true rfl, Nat.le_of_ble_eq_true rfl⟩ (Nat.le_of_ble_eq_true rfl) (Nat.le_of_ble_eq_true rfl) (Nat.le_of_ble_eq_true rfl) (goV fun G1 h1 => ?_)
  subst h1
  refine gw_aload_n (q := 5) hc dJ1_init_4 rfl rfl xg_0 ?_
  refine gw_iconst (q := 6) hc dJ1_init_5 rfl ?_
  refine gw_put (q := 9) hc dJ1_init_6 rfl cE_AL 0 (by decide) q130 (fun _ h => h) rfl hG ⟨rfl, rfl⟩ rfl (Nat.le_of_ble_eq_true rfl) ?_
  exact gw_vret hc dJ1_init_9 ⟨rfl, rfl⟩

theorem mw_J1_init : mI yJ1_init cJ1_init 1 0 := ⟨⟨rfl, by decide +kernel, by decide +kernel, by decide +kernel⟩, q118, q76, q119⟩
set_option maxHeartbeats 4000000 in
theorem m_J2_init {l : Launch} {D : va_G} {X : Nat → Nat} {b0 : Nat} {a : Nat} {G : gM} {mc n : Int} (hG : G a = some (oE 7 [.int (iI mc), .null, .int (iI n)])) : gMet l D X b0 yJ2_init cJ2_init 1 none (rmE 3 0 0) [.ref a] G (eV (gup G a (alO 0 (X 0) n))) := by
  refine gm_start (own := "java/util/ArrayList") (lv := [some (.ref a)]) (by decide +kernel) rfl (Nat.le_of_ble_eq_true rfl) rfl (fun p_ e_ s_ m_ args_ below_ meth_ c_ hc hnm => ?_)
  refine gw_aload_n (q := 1) hc dJ2_init_0 rfl rfl xg_0 ?_
  refine gw_callI (q := 4) (bc' := 0) (bs' := 0) (As := []) hc dJ2_init_1 rfl q117 mw_J1_init rfl rfl (m_J1_init_N hG) ⟨Nat.le_of_ble_eq_true rfl, Nat.le_of_ble_eq_true rfl⟩ (Nat.le_of_ble_eq_true rfl) (Nat.le_of_ble_eq_true rfl) (Nat.le_of_ble_eq_true rfl) (goV fun G1 h1 => ?_)
  subst h1
  refine gw_aload_n (q := 5) hc dJ2_init_4 rfl rfl xg_0 ?_
  refine gw_gets (q := 8) hc dJ2_init_5 rfl q124 hc.2.2.2.2.2.2.2.2.2.1.2.1 (fun _ h => h) ?_
  refine gw_put (q := 11) hc dJ2_init_8 rfl cE_AL 1 (by decide) q126 (fun _ h => h) rfl gup_s ⟨rfl, rfl⟩ rfl (Nat.le_of_ble_eq_true rfl) ?_
  refine gw_G gup_gup ?_
  exact gw_vret hc dJ2_init_11 ⟨rfl, rfl⟩

