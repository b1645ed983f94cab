/-! ===== lists grow, shrink ===== -/
set_option maxRecDepth 100000
theorem ne_none {G : gM} {a x : Nat} {e : va_E} (h : G a = some e) (hx : G x = none) : a ≠ x := fun z => by rw [z, hx] at h; cases h
theorem gup_k {G : gM} {a x : Nat} {e e' : va_E} (h : G a = some e) (hx : G x = none) : gup G x e' a = some e := (gup_n (ne_none h hx)).trans h
theorem alO_ne {G : gM} {D : va_G} {a ar cap : Nat} {ci : Nat} {fs : List Value} {f : Int → Option Nat} (h : G a = some (oE ci fs)) (hA : G ar = some (qA D cap f)) : ar ≠ a := fun z => by rw [z, h] at hA; cases hA
/-- what a list's array holds: the elements, nothing behind them -/
def elF (f : Int → Option Nat) (cap n : Int) (el : Int → Nat) : Prop := ∀ i, 0 ≤ i → i < cap → f i = if i < n then some (el i) else none
/-- every element is an object of class ci -/
def obL (G : gM) (ci : Nat) (n : Int) (el : Int → Nat) : Prop := ∀ i, 0 ≤ i → i < n → ∃ fs, G (el i) = some (.inr (ci, fs))

section GWGC
variable {p : Program} {l : Launch} {e : Env} {R : Room} {s : State} {m : MethodId} {args : Array Value} {below : List Frame} {meth : Method} {c : Code} {Q : State → Prop}
variable {D : va_G} {X : Nat → Nat} {b0 nL bc bs pc q : Nat} {own : String} {cc : ByteArray} {ret : Option FieldType} {G : gM} {lv lv' lv1 : List (Option Value)} {st : List Value}
theorem gw_getC2 (hc : cx p s m args meth c D X b0 own cc nL ret) {a index n : Nat} {f : Int → Option Nat} (d : decode cc pc = .ok (.invokevirtual index, 3)) (hq : pc + 3 = q) (hlink : Cond.methodLink own index ⟨"java/lang/Object", "getClass", "()Ljava/lang/Class;"⟩ ∈ lw_all) (hdecl : Cond.declares ⟨"java/lang/Object", "getClass", "()Ljava/lang/Class;"⟩ ∈ lw_tbl) (hsel : Cond.selects dObj ⟨"java/lang/Object", "getClass", "()Ljava/lang/Class;"⟩ ⟨"java/lang/Object", "getClass", "()Ljava/lang/Class;"⟩ ∈ lw_all) (hinst : Cond.instanceMethod ⟨"java/lang/Object", "getClass", "()Ljava/lang/Class;"⟩ ∈ lw_all) (hnat : Cond.native ⟨"java/lang/Object", "getClass", "()Ljava/lang/Class;"⟩ ∈ lw_all) (hG : G a = some (qA D n f)) (hfr : 1 ≤ R.frames) (hlo : (st.map fun v => v.category).sum + 14 ≤ R.locals) (kk : GW p l e R s m args below meth c D b0 nL Q G bc bs q lv (.ref (X 6) :: st)) : GW p l e R s m args below meth c D b0 nL Q G bc bs pc lv (.ref a :: st) := by
  subst hq
  intro H locs ls cells slots h1 h2 hg hl
  have hw := hc.2.2.2.2.1
  obtain ⟨kA, comp, r1, r2, r3, r4⟩ := (hc.2.2.2.2.2.2.2.2.1.1.2 4 _ rfl).2
  exact va_getC hc.1 hc.2.1 (by rw [hc.2.2.1]; exact hl.1.symm) hc.2.2.2.1 (hw _ hlink) (va_Nw.use (A := args) rfl (hc.2.2.2.2.2.2.2.2.1.2 _ hdecl rfl)) (hw _ hsel) (hw _ hinst) (hw _ hnat) hc.2.2.2.2.2.2.2.2.2.1.2.2.2.2.2.2.2.2.2.2.2.2 ⟨_, (hg.1 a _ hG).1, rfl, r4⟩ hfr hlo d (kk H locs ls cells slots h1 h2 hg hl)
end GWGC
set_option maxHeartbeats 4000000 in
theorem m_J12_copyOf_2 {l : Launch} {D : va_G} {X : Nat → Nat} {b0 : Nat} {ar cap n ci N : Nat} {f : Int → Option Nat} {el : Int → Nat} {G : gM} {C : String} {T : u_T} {ty0 : Nat → FieldType} (hA : G ar = some (qA D cap f)) (hE : cE ci C T N ty0) (hcast : Cond.castable C "java/lang/Object" ∈ lw_tbl) (hf : elF f cap cap el) (hel : obL G ci cap el) (hn : cap ≤ n ∧ n ≤ 64) : gMet l D X b0 yJ12_copyOf_2 cJ12_copyOf_2 4 (some (FieldType.array (FieldType.object "java/lang/Object"))) (rmE 1 1 64) [.ref ar, .int (iI (n : Int)), .ref (X 6)] G (pA fun r G' => G r = none ∧ ∃ f2 : Int → Option Nat, elF f2 n cap el ∧ G' = gup G r (qA D n f2)) := by
  refine gm_start (own := "java/util/Arrays") (lv := [some (.ref ar), some (.int (iI (n : Int))), some (.ref (X 6)), none]) (by decide +kernel) rfl (Nat.le_of_ble_eq_true rfl) rfl (fun p_ e_ s_ m_ args_ below_ meth_ c_ hc hnm => ?_)
  refine gw_aload_n (q := 1) hc dJ12_copyOf_2_0 rfl rfl xg_2 ?_
  refine gw_ldcM (q := 3) hc dJ12_copyOf_2_1 rfl q400 ?_
  refine gw_acmp_ne (x := some (X 6)) (y := some (X 6)) (q := 6) (t := 13) hc dJ12_copyOf_2_3 rfl (by decide)  (fun c3 => ?_) (fun c3 => ?_)
  · exact absurd rfl c3
  · skip
    refine gw_iload_n (q := 7) hc dJ12_copyOf_2_6 rfl rfl xg_1 ?_
    refine gw_newq (q := 10) (n := n) hc dJ12_copyOf_2_7 rfl q402 q401 (by omega) (bc' := 0) (bs' := 0) (Nat.le_of_ble_eq_true rfl) (by show 0 + n ≤ 64; omega) (fun x hnx hbx => ?_)
    refine gw_goto (q := 24) hc dJ12_copyOf_2_10 (by decide) ?_
    refine gw_astore_n (q := 25) hc dJ12_copyOf_2_24 rfl rfl xs_3 (by decide) (n2p xg_2 rfl) ?_
    refine gw_aload_n (q := 26) hc dJ12_copyOf_2_25 rfl rfl xg_0 ?_
    refine gw_iconst (q := 27) hc dJ12_copyOf_2_26 rfl ?_
    refine gw_aload_n (q := 28) hc dJ12_copyOf_2_27 rfl rfl xg_3 ?_
    refine gw_iconst (q := 29) hc dJ12_copyOf_2_28 rfl ?_
    refine gw_aload_n (q := 30) hc dJ12_copyOf_2_29 rfl rfl xg_0 ?_
    refine gw_alen (q := 31) hc (4) dJ12_copyOf_2_30 rfl (gup_k hA hnx) rfl ?_
    refine gw_iload_n (q := 32) hc dJ12_copyOf_2_31 rfl rfl xg_1 ?_
    refine gw_mmin (q := 35) hc dJ12_copyOf_2_32 rfl q403 (by omega) (by omega) (Nat.le_of_ble_eq_true rfl) (Nat.le_of_ble_eq_true rfl) ?_
    rw [if_neg (by omega)]
    refine gw_copyq (q := 38) hc dJ12_copyOf_2_35 rfl q406 q262 q261 q85 (gup_k hA hnx) gup_s ⟨by omega, by omega⟩ ⟨by omega, by omega⟩ (by omega) ⟨by omega, by omega⟩ hcast (fun i h0 h1 y hy => by
    have hfi := hf i h0 h1
    rw [show (0 : Int) + i = i by omega, hfi, if_pos h1] at hy
    cases hy
    obtain ⟨fs, he⟩ := hel i h0 h1
    exact rc_o hc hE (gup_k he hnx)) (Nat.le_of_ble_eq_true rfl) (Nat.le_of_ble_eq_true rfl) ?_
    refine gw_G gup_gup ?_
    refine gw_aload_n (q := 39) hc dJ12_copyOf_2_38 rfl rfl xg_3 ?_
    exact gw_aret hc rfl (by first | exact Or.inl ⟨_, rfl⟩ | exact Or.inr ⟨_, rfl⟩) dJ12_copyOf_2_39 ⟨_, rfl, ⟨hnx, _, fun i h0 h1 => by
    show (if 0 ≤ i ∧ i < 0 + (cap : Int) then f (0 + (i - 0)) else none) = _
    by_cases h : i < cap
    · rw [if_pos ⟨h0, by omega⟩, if_pos h, show 0 + (i - 0) = i by omega, hf i h0 h, if_pos h]
    · rw [if_neg (by omega), if_neg h], rfl⟩⟩

theorem mw_J12_copyOf_2 : mS yJ12_copyOf_2 cJ12_copyOf_2 4 (some (FieldType.array (FieldType.object "java/lang/Object"))) 3 := ⟨⟨by decide +kernel, by decide +kernel, by decide +kernel⟩, q398, q90, q399⟩
set_option maxHeartbeats 4000000 in
theorem m_J12_copyOf {l : Launch} {D : va_G} {X : Nat → Nat} {b0 : Nat} {ar cap n ci N : Nat} {f : Int → Option Nat} {el : Int → Nat} {G : gM} {C : String} {T : u_T} {ty0 : Nat → FieldType} (hA : G ar = some (qA D cap f)) (hE : cE ci C T N ty0) (hcast : Cond.castable C "java/lang/Object" ∈ lw_tbl) (hf : elF f cap cap el) (hel : obL G ci cap el) (hn : cap ≤ n ∧ n ≤ 64) : gMet l D X b0 yJ12_copyOf cJ12_copyOf 2 (some (FieldType.array (FieldType.object "java/lang/Object"))) (rmE 2 1 64) [.ref ar, .int (iI (n : Int))] G (pA fun r G' => G r = none ∧ ∃ f2 : Int → Option Nat, elF f2 n cap el ∧ G' = gup G r (qA D n f2)) := by
  refine gm_start (own := "java/util/Arrays") (lv := [some (.ref ar), some (.int (iI (n : Int)))]) (by decide +kernel) rfl (Nat.le_of_ble_eq_true rfl) rfl (fun p_ e_ s_ m_ args_ below_ meth_ c_ hc hnm => ?_)
  refine gw_aload_n (q := 1) hc dJ12_copyOf_0 rfl rfl xg_0 ?_
  refine gw_iload_n (q := 2) hc dJ12_copyOf_1 rfl rfl xg_1 ?_
  refine gw_aload_n (q := 3) hc dJ12_copyOf_2 rfl rfl xg_0 ?_
  refine gw_getC2 (q := 6) hc dJ12_copyOf_3 rfl q382 q1564 q1563 q383 q396 hA (Nat.le_of_ble_eq_true rfl) (Nat.le_of_ble_eq_true rfl) ?_
  refine gw_callS (q := 9) (bc' := 0) (bs' := 0) (As := [_, _, _]) hc dJ12_copyOf_6 rfl q397 mw_J12_copyOf_2 rfl rfl (m_J12_copyOf_2 hA hE hcast hf hel hn) ⟨Nat.le_of_ble_eq_true rfl, Nat.le_of_ble_eq_true rfl⟩ (Nat.le_of_ble_eq_true rfl) (Nat.le_of_ble_eq_true rfl) (Nat.le_of_ble_eq_true rfl) (goA fun r6 G6 h6 => ?_)
  exact gw_aret hc rfl (by first | exact Or.inl ⟨_, rfl⟩ | exact Or.inr ⟨_, rfl⟩) dJ12_copyOf_9 ⟨_, rfl, h6⟩

set_option maxHeartbeats 4000000 in
theorem m_J10_newLength {l : Launch} {D : va_G} {X : Nat → Nat} {b0 : Nat} {G : gM} {x y z : Int} (hx : 0 < x ∧ x ≤ 1000) (hy : 0 < y ∧ y ≤ 1000) (hz : 0 ≤ z ∧ z ≤ 1000) : gMet l D X b0 yJ10_newLength cJ10_newLength 4 (some FieldType.int) (rmE 1 0 0) [.int (iI x), .int (iI y), .int (iI z)] G (eI (x + (if y < z then z else y)) G) := by
  refine gm_start (own := "jdk/internal/util/ArraysSupport") (lv := [some (.int (iI x)), some (.int (iI y)), some (.int (iI z)), none]) (by decide +kernel) rfl (Nat.le_of_ble_eq_true rfl) rfl (fun p_ e_ s_ m_ args_ below_ meth_ c_ hc hnm => ?_)
  refine gw_iload_n (q := 1) hc dJ10_newLength_0 rfl rfl xg_0 ?_
  refine gw_iload_n (q := 2) hc dJ10_newLength_1 rfl rfl xg_1 ?_
  refine gw_iload_n (q := 3) hc dJ10_newLength_2 rfl rfl xg_2 ?_
  refine gw_mmax (q := 6) hc dJ10_newLength_3 rfl q372 (by omega) (by omega) (Nat.le_of_ble_eq_true rfl) (Nat.le_of_ble_eq_true rfl) ?_
  have hm : 0 < (if y < z then z else y) ∧ (if y < z then z else y) ≤ 1000 := by split <;> omega
  refine gw_iadd (q := 7) hc dJ10_newLength_6 rfl ?_
  refine gw_istore_n (q := 8) hc dJ10_newLength_7 rfl rfl xs_3 (by decide) (n2p xg_2 rfl) ?_
  refine gw_iconst (q := 9) hc dJ10_newLength_8 rfl ?_
  refine gw_iload_n (q := 10) hc dJ10_newLength_9 rfl rfl xg_3 ?_
  refine gw_icmp_ge  (q := 13) (t := 21) hc dJ10_newLength_10 rfl (by decide) (by omega) (by omega) (fun c10 => ?_) (fun c10 => ?_)
  · exfalso; omega
  · skip
    refine gw_iload_n (q := 14) hc dJ10_newLength_13 rfl rfl xg_3 ?_
    refine gw_ldc (q := 16) hc dJ10_newLength_14 rfl (v := 2147483639) q375 (by decide) ?_
    refine gw_icmp_gt  (q := 19) (t := 21) hc dJ10_newLength_16 rfl (by decide) (by omega) (by omega) (fun c16 => ?_) (fun c16 => ?_)
    · exfalso; omega
    · skip
      refine gw_iload_n (q := 20) hc dJ10_newLength_19 rfl rfl xg_3 ?_
      exact gw_iret hc dJ10_newLength_20 ⟨_, rfl, ⟨rfl, rfl⟩⟩

theorem mw_J10_newLength : mS yJ10_newLength cJ10_newLength 4 (some FieldType.int) 3 := ⟨⟨by decide +kernel, by decide +kernel, by decide +kernel⟩, q370, q88, q371⟩
theorem mw_J12_copyOf : mS yJ12_copyOf cJ12_copyOf 2 (some (FieldType.array (FieldType.object "java/lang/Object"))) 2 := ⟨⟨by decide +kernel, by decide +kernel, by decide +kernel⟩, q380, q90, q381⟩
set_option maxHeartbeats 4000000 in
theorem m_J2_grow_2 {l : Launch} {D : va_G} {X : Nat → Nat} {b0 : Nat} {a ar cap ci N : Nat} {mc : Int} {f : Int → Option Nat} {el : Int → Nat} {G : gM} {C : String} {T : u_T} {ty0 : Nat → FieldType} (hG : G a = some (alO mc ar (cap : Int))) (hA : G ar = some (qA D cap f)) (hE : cE ci C T N ty0) (hcast : Cond.castable C "java/lang/Object" ∈ lw_tbl) (hf : elF f cap cap el) (hel : obL G ci cap el) (hc0 : 0 < cap ∧ cap ≤ 40) : gMet l D X b0 yJ2_grow_2 cJ2_grow_2 4 (some (FieldType.array (FieldType.object "java/lang/Object"))) (rmE 3 1 64) [.ref a, .int (iI ((cap : Int) + 1))] G (pA fun r G' => G r = none ∧ ∃ (cap2 : Nat) (f2 : Int → Option Nat), elF f2 cap2 cap el ∧ (cap < cap2 ∧ cap2 ≤ 1000) ∧ G' = gup (gup G r (qA D cap2 f2)) a (alO mc r (cap : Int))) := by
  refine gm_start (own := "java/util/ArrayList") (lv := [some (.ref a), some (.int (iI ((cap : Int) + 1))), none, none]) (by decide +kernel) rfl (Nat.le_of_ble_eq_true rfl) rfl (fun p_ e_ s_ m_ args_ below_ meth_ c_ hc hnm => ?_)
  refine gw_aload_n (q := 1) hc dJ2_grow_2_0 rfl rfl xg_0 ?_
  refine gw_get (q := 4) hc dJ2_grow_2_1 rfl cE_AL 1 (by decide) q126 (fun _ h => h) hG rfl ?_
  refine gw_alen (q := 5) hc (4) dJ2_grow_2_4 rfl hA rfl ?_
  refine gw_istore_n (q := 6) hc dJ2_grow_2_5 rfl rfl xs_2 (by decide) (n2p xg_1 rfl) ?_
  refine gw_iload_n (q := 7) hc dJ2_grow_2_6 rfl rfl xg_2 ?_
  refine gw_if_gt  (q := 10) (t := 20) hc dJ2_grow_2_7 rfl (by decide) (by omega) (fun c7 => ?_) (fun c7 => ?_)
  · skip
    refine gw_iload_n (q := 21) hc dJ2_grow_2_20 rfl rfl xg_2 ?_
    refine gw_iload_n (q := 22) hc dJ2_grow_2_21 rfl rfl xg_1 ?_
    refine gw_iload_n (q := 23) hc dJ2_grow_2_22 rfl rfl xg_2 ?_
    refine gw_isub (q := 24) hc dJ2_grow_2_23 rfl ?_
    refine gw_iload_n (q := 25) hc dJ2_grow_2_24 rfl rfl xg_2 ?_
    refine gw_iconst (q := 26) hc dJ2_grow_2_25 rfl ?_
    refine gw_ishr (q := 27) hc dJ2_grow_2_26 rfl ?_
    rw [shr_1 (by omega) (by omega)]
    refine gw_callS (q := 30) (bc' := 1) (bs' := 64) (As := [_, _, _]) hc dJ2_grow_2_27 rfl q369 mw_J10_newLength rfl rfl (m_J10_newLength (by omega) (by omega) (by omega)) ⟨Nat.le_of_ble_eq_true rfl, Nat.le_of_ble_eq_true rfl⟩ (Nat.le_of_ble_eq_true rfl) (Nat.le_of_ble_eq_true rfl) (Nat.le_of_ble_eq_true rfl) (goI fun r27 G27 h27 => ?_)
    obtain ⟨rfl, rfl⟩ := h27
    have hy1 : (cap : Int) + 1 - cap = 1 := by omega
    rw [hy1]
    obtain ⟨n2, hn2, hb2⟩ : ∃ n2 : Nat, (cap : Int) + (if 1 < (cap : Int) / 2 then (cap : Int) / 2 else 1) = n2 ∧ cap < n2 ∧ n2 ≤ 64 := ⟨((cap : Int) + (if 1 < (cap : Int) / 2 then (cap : Int) / 2 else 1)).toNat, by split <;> omega, by split <;> omega, by split <;> omega⟩
    rw [hn2]
    refine gw_istore_n (q := 31) hc dJ2_grow_2_30 rfl rfl xs_3 (by decide) (n2p xg_2 rfl) ?_
    refine gw_aload_n (q := 32) hc dJ2_grow_2_31 rfl rfl xg_0 ?_
    refine gw_aload_n (q := 33) hc dJ2_grow_2_32 rfl rfl xg_0 ?_
    refine gw_get (q := 36) hc dJ2_grow_2_33 rfl cE_AL 1 (by decide) q126 (fun _ h => h) hG rfl ?_
    refine gw_iload_n (q := 37) hc dJ2_grow_2_36 rfl rfl xg_3 ?_
    refine gw_callS (q := 40) (bc' := 0) (bs' := 0) (As := [_, _]) hc dJ2_grow_2_37 rfl q379 mw_J12_copyOf rfl rfl (m_J12_copyOf hA hE hcast hf hel (by omega)) ⟨Nat.le_of_ble_eq_true rfl, Nat.le_of_ble_eq_true rfl⟩ (Nat.le_of_ble_eq_true rfl) (Nat.le_of_ble_eq_true rfl) (Nat.le_of_ble_eq_true rfl) (goA fun r37 G37 h37 => ?_)
    obtain ⟨hnr, f2, hf2, rfl⟩ := h37
    have hG2 := gup_k (e' := qA D n2 f2) hG hnr
    refine gw_dup_x1 (q := 41) hc dJ2_grow_2_40 rfl rfl rfl ?_
    refine gw_put (q := 44) hc dJ2_grow_2_41 rfl cE_AL 1 (by decide) q126 (fun _ h => h) rfl hG2 ⟨rfl, rfl⟩ rfl (Nat.le_of_ble_eq_true rfl) ?_
    exact gw_aret hc rfl (by first | exact Or.inl ⟨_, rfl⟩ | exact Or.inr ⟨_, rfl⟩) dJ2_grow_2_44 ⟨_, rfl, ⟨hnr, n2, f2, hf2, by omega, rfl⟩⟩
  · exfalso; omega

set_option maxHeartbeats 4000000 in
theorem m_J2_grow_2_0 {l : Launch} {D : va_G} {X : Nat → Nat} {b0 : Nat} {a : Nat} {mc : Int} {G : gM} (hG : G a = some (alO mc (X 0) 0)) : gMet l D X b0 yJ2_grow_2 cJ2_grow_2 4 (some (FieldType.array (FieldType.object "java/lang/Object"))) (rmE 1 1 10) [.ref a, .int (iI (0 + 1))] G (pA fun r G' => G r = none ∧ G' = gup (gup G r (qA D 10 (fun _ => none))) a (alO mc r 0)) := by
  refine gm_start (own := "java/util/ArrayList") (lv := [some (.ref a), some (.int (iI (0 + 1))), none, none]) (by decide +kernel) rfl (Nat.le_of_ble_eq_true rfl) rfl (fun p_ e_ s_ m_ args_ below_ meth_ c_ hc hnm => ?_)
  refine gw_aload_n (q := 1) hc dJ2_grow_2_0 rfl rfl xg_0 ?_
  refine gw_get (q := 4) hc dJ2_grow_2_1 rfl cE_AL 1 (by decide) q126 (fun _ h => h) hG rfl ?_
  refine gw_tlen (q := 5) hc dJ2_grow_2_4 rfl hc.2.2.2.2.2.2.2.2.2.1.2.2.1 ?_
  refine gw_istore_n (q := 6) hc dJ2_grow_2_5 rfl rfl xs_2 (by decide) (n2p xg_1 rfl) ?_
  refine gw_iload_n (q := 7) hc dJ2_grow_2_6 rfl rfl xg_2 ?_
  refine gw_if_gt  (q := 10) (t := 20) hc dJ2_grow_2_7 rfl (by decide) (by omega) (fun c7 => ?_) (fun c7 => ?_)
  · exfalso; omega
  · skip
    refine gw_aload_n (q := 11) hc dJ2_grow_2_10 rfl rfl xg_0 ?_
    refine gw_get (q := 14) hc dJ2_grow_2_11 rfl cE_AL 1 (by decide) q126 (fun _ h => h) hG rfl ?_
    refine gw_gets (q := 17) hc dJ2_grow_2_14 rfl q124 hc.2.2.2.2.2.2.2.2.2.1.2.1 (fun _ h => h) ?_
    refine gw_acmp_eq (x := some (X 0)) (y := some (X 0)) (q := 20) (t := 45) hc dJ2_grow_2_17 rfl (by decide)  (fun c17 => ?_) (fun c17 => ?_)
    · skip
      refine gw_aload_n (q := 46) hc dJ2_grow_2_45 rfl rfl xg_0 ?_
      refine gw_bipush (q := 48) hc dJ2_grow_2_46 rfl (by decide) ?_
      refine gw_iload_n (q := 49) hc dJ2_grow_2_48 rfl rfl xg_1 ?_
      refine gw_mmax (q := 52) hc dJ2_grow_2_49 rfl q407 (by omega) (by omega) (Nat.le_of_ble_eq_true rfl) (Nat.le_of_ble_eq_true rfl) ?_
      rw [show (if (10 : Int) < 0 + 1 then (0 : Int) + 1 else 10) = ((10 : Nat) : Int) by decide]
      refine gw_newq (q := 55) (n := 10) hc dJ2_grow_2_52 rfl q408 q401 (by omega) (bc' := 0) (bs' := 0) (Nat.le_of_ble_eq_true rfl) (Nat.le_of_ble_eq_true rfl) (fun x hnx hbx => ?_)
      refine gw_dup_x1 (q := 56) hc dJ2_grow_2_55 rfl rfl rfl ?_
      refine gw_put (q := 59) hc dJ2_grow_2_56 rfl cE_AL 1 (by decide) q126 (fun _ h => h) rfl (gup_k hG hnx) ⟨rfl, rfl⟩ rfl (Nat.le_of_ble_eq_true rfl) ?_
      exact gw_aret hc rfl (by first | exact Or.inl ⟨_, rfl⟩ | exact Or.inr ⟨_, rfl⟩) dJ2_grow_2_59 ⟨_, rfl, ⟨hnx, rfl⟩⟩
    · exact absurd rfl c17

theorem mw_J2_grow_2 : mV "java/util/ArrayList" yJ2_grow_2 cJ2_grow_2 4 (some (FieldType.array (FieldType.object "java/lang/Object"))) 1 := ⟨⟨rfl, by decide +kernel, by decide +kernel, by decide +kernel⟩, q367, qs5, q77, q368⟩
set_option maxHeartbeats 4000000 in
theorem m_J2_grow {l : Launch} {D : va_G} {X : Nat → Nat} {b0 : Nat} {a ar cap ci N : Nat} {mc : Int} {f : Int → Option Nat} {el : Int → Nat} {G : gM} {C : String} {T : u_T} {ty0 : Nat → FieldType} (hG : G a = some (alO mc ar (cap : Int))) (hA : G ar = some (qA D cap f)) (hE : cE ci C T N ty0) (hcast : Cond.castable C "java/lang/Object" ∈ lw_tbl) (hf : elF f cap cap el) (hel : obL G ci cap el) (hc0 : 0 < cap ∧ cap ≤ 40) : gMet l D X b0 yJ2_grow cJ2_grow 1 (some (FieldType.array (FieldType.object "java/lang/Object"))) (rmE 4 1 64) [.ref a] G (pA fun r G' => G r = none ∧ ∃ (cap2 : Nat) (f2 : Int → Option Nat), elF f2 cap2 cap el ∧ (cap < cap2 ∧ cap2 ≤ 1000) ∧ G' = gup (gup G r (qA D cap2 f2)) a (alO mc r (cap : Int))) := by
  refine gm_start (own := "java/util/ArrayList") (lv := [some (.ref a)]) (by decide +kernel) rfl (Nat.le_of_ble_eq_true rfl) rfl (fun p_ e_ s_ m_ args_ below_ meth_ c_ hc hnm => ?_)
  refine gw_aload_n (q := 1) hc dJ2_grow_0 rfl rfl xg_0 ?_
  refine gw_aload_n (q := 2) hc dJ2_grow_1 rfl rfl xg_0 ?_
  refine gw_get (q := 5) hc dJ2_grow_2 rfl cE_AL 2 (by decide) q129 (fun _ h => h) hG rfl ?_
  refine gw_iconst (q := 6) hc dJ2_grow_5 rfl ?_
  refine gw_iadd (q := 7) hc dJ2_grow_6 rfl ?_
  refine gw_callV (q := 10) (bc' := 0) (bs' := 0) (As := [_]) hc dJ2_grow_7 rfl q365 mw_J2_grow_2 (rc_o hc cE_AL hG) rfl rfl (m_J2_grow_2 hG hA hE hcast hf hel hc0) ⟨Nat.le_of_ble_eq_true rfl, Nat.le_of_ble_eq_true rfl⟩ (Nat.le_of_ble_eq_true rfl) (Nat.le_of_ble_eq_true rfl) (Nat.le_of_ble_eq_true rfl) (goA fun r7 G7 h7 => ?_)
  exact gw_aret hc rfl (by first | exact Or.inl ⟨_, rfl⟩ | exact Or.inr ⟨_, rfl⟩) dJ2_grow_10 ⟨_, rfl, h7⟩

set_option maxHeartbeats 4000000 in
theorem m_J2_grow_0 {l : Launch} {D : va_G} {X : Nat → Nat} {b0 : Nat} {a : Nat} {mc : Int} {G : gM} (hG : G a = some (alO mc (X 0) 0)) : gMet l D X b0 yJ2_grow cJ2_grow 1 (some (FieldType.array (FieldType.object "java/lang/Object"))) (rmE 2 1 10) [.ref a] G (pA fun r G' => G r = none ∧ G' = gup (gup G r (qA D 10 (fun _ => none))) a (alO mc r 0)) := by
  refine gm_start (own := "java/util/ArrayList") (lv := [some (.ref a)]) (by decide +kernel) rfl (Nat.le_of_ble_eq_true rfl) rfl (fun p_ e_ s_ m_ args_ below_ meth_ c_ hc hnm => ?_)
  refine gw_aload_n (q := 1) hc dJ2_grow_0 rfl rfl xg_0 ?_
  refine gw_aload_n (q := 2) hc dJ2_grow_1 rfl rfl xg_0 ?_
  refine gw_get (q := 5) hc dJ2_grow_2 rfl cE_AL 2 (by decide) q129 (fun _ h => h) hG rfl ?_
  refine gw_iconst (q := 6) hc dJ2_grow_5 rfl ?_
  refine gw_iadd (q := 7) hc dJ2_grow_6 rfl ?_
  refine gw_callV (q := 10) (bc' := 0) (bs' := 0) (As := [_]) hc dJ2_grow_7 rfl q365 mw_J2_grow_2 (rc_o hc cE_AL hG) rfl rfl (m_J2_grow_2_0 hG) ⟨Nat.le_of_ble_eq_true rfl, Nat.le_of_ble_eq_true rfl⟩ (Nat.le_of_ble_eq_true rfl) (Nat.le_of_ble_eq_true rfl) (Nat.le_of_ble_eq_true rfl) (goA fun r7 G7 h7 => ?_)
  exact gw_aret hc rfl (by first | exact Or.inl ⟨_, rfl⟩ | exact Or.inr ⟨_, rfl⟩) dJ2_grow_10 ⟨_, rfl, h7⟩

