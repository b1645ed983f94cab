/-! ===== READING ORDERS: signs ===== -/
set_option maxRecDepth 100000
section GWCD
variable {p : Program} {l : Launch} {e : Env} {R : Room} {s : State} {m : MethodId} {args : Array Value} {below : List Frame} {meth : Method} {c : Code} {Q : State → Prop}
variable {D : va_G} {X : Nat → Nat} {b0 nL bc bs pc q : Nat} {own : String} {cc : ByteArray} {ret : Option FieldType} {G : gM} {lv lv' lv1 : List (Option Value)} {st : List Value}
theorem gw_callD (hc : cx p s m args meth c D X b0 "EnergyDiscs$Reader" cc nL ret) {bytes : ByteArray} {maxL : Nat} {ret2 : Option FieldType} {rm : Room} {As st0 : List Value} {post : Option Value → gM → Prop} {a : Nat} (d : decode cc pc = .ok (.invokevirtual 47, 3)) (hq : pc + 3 = q) (hinst : Cond.instanceMethod ySat ∈ lw_all) (hini : Cond.initialized ySat.cls ∈ lw_all) (hcode : Cond.code ySat bytes maxL ret2 ∈ lw_all) (hn : As.length = 1) (hst : st0 = As.reverse ++ .ref a :: st) (hM : gMet l D X b0 ySat bytes maxL ret2 rm (.ref a :: As) G post) (hrc : rcv D b0 s G a "EnergyDiscs$Reader") (hR : rm.frames + 1 ≤ R.frames ∧ 8 + (maxL + 11) + rm.locals ≤ R.locals) (hw8 : (st.map fun v => v.category).sum ≤ 8) {bc' bs' : Nat} (hb1 : rm.cells + bc' ≤ bc) (hb2 : rm.slots + bs' ≤ bs) (kk : ∀ (v : Option Value) (G' : gM), post v G' → GW p l e R s m args below meth c D b0 nL Q G' bc' bs' q lv (v.toList ++ st)) : GW p l e R s m args below meth c D b0 nL Q G bc bs pc lv st0 := by
  subst hq
  subst hst
  refine gw_go (a := (Value.ref a :: As).toArray) hb1 hb2 (fun H locs ls cells slots h1 h2 hg hl => ?_) kk
  have hw := hc.2.2.2.2.1
  have hk := hc.2.2.2.2.2.2.2.2.2.2.2
  have hlink : (Cond.methodLink "EnergyDiscs$Reader" 47 yRat).before args s = true := va_Nw.use (A := args) rfl hk.2.2.1
  have hsame : (Cond.sameMethod "EnergyDiscs$Reader" "EnergyDiscs$Sign" "at" "(I)C").before args s = true := va_Nw.use (A := args) rfl hk.2.2.2.1
  have hland : (Cond.landsInDefault "EnergyDiscs$Reader" yRat ySat).before args s = true := hk.2.2.2.2
  obtain ⟨cellB, hcB, hoB, hclB⟩ := hrc H locs hg
  have hK : Back l R p e below s args ySat 3 8 (PreOf R rm.cells rm.slots (gPc D X b0 (.ref a :: As) G)) (PostOf (gQ D b0 post) rm.cells rm.slots (bz b0)) := back_of (bytes := bytes) (maxL := maxL) (ret := ret2) hM gPc_blind rfl rfl hR.1 hR.2 (pay_in hw (lw_meth hcode)) List.mem_cons_self (fun a' U hW => word_at hW (Or.inl (by first | rfl | simp [Cond.onTables, Cond.keeps, Cond.steady])) (hw _ hini))
  intro T hT XX
  obtain ⟨mk, methM, hnamed, hmethM, -, habM⟩ := Cond.instanceMethod_spec (hw _ hinst)
  obtain ⟨c2, r2, m2, rm2, q1, q2, q3, q5, q4, ⟨kI, hkI, hkIi⟩, q6, q7⟩ := Cond.landsInDefault_spec hland
  obtain ⟨cn, ck, r1, hcn, hck, hni, hf, hn1⟩ := Cond.sameMethod_found hsame
  cases hclB.symm.trans q1
  cases hf.symm.trans q2
  cases hnamed.symm.trans q3
  obtain ⟨r0, r, hn0, hrm, hstR, hsigR⟩ := va_Decl.of (hw _ hinst) (hw _ hcode)
  cases hn0.symm.trans hn1
  cases hrm.symm.trans q5
  obtain ⟨vm₁, X₁, hstep₁⟩ := XX.invokevirtualUpD hc.1 hc.2.2.2.1 hlink hsame ⟨by decide, by decide⟩ hn0 hrm hstR (a := a) (cell := cellB) (by rw [hT]; exact hcB) (fun z h => by rw [h] at hoB; cases hoB) (by rw [Launch.admits_selectMethod XX.admits]; exact q4) hmethM habM hkI hkIi q7 (g := F0 m pc ls (As.reverse ++ .ref a :: st)) rfl (argsL := As) (rest := st) (by
    have h2 : (parseMethodDescriptor ySat.desc).map (fun d => d.parameters.length) = some 1 := by decide +kernel
    rw [show parseMethodDescriptor ySat.desc = _ from hsigR] at h2
    rw [hn]
    exact (Option.some.inj h2).symm) rfl (by rw [hc.2.1]; exact d)
  obtain ⟨v, ⟨U', l2, c2', s2⟩, X', hpost, hsteps⟩ := hK m meth c ⟨T.setVm vm₁, locs, cells, slots⟩ { F0 m pc ls (As.reverse ++ .ref a :: st) with stack := st } (.invokevirtual 47) mk (Value.ref a :: As).toArray X₁ rfl (by rw [hc.2.2.1]; exact hl.1) (by rw [hc.2.1]; exact d) (lv_room hw8) (X₁.named hnamed) ⟨by show cells + rm.cells ≤ R.cells; omega, by show slots + rm.slots ≤ R.slots; omega, gpv hc hg (T.setVm vm₁) hT X₁.warmed⟩
  obtain ⟨g', mk', t, L, e1, e2, hq2, h1', hL, h2', h3'⟩ := hpost
  dsimp only [Pt.U, Pt.locs, Pt.cells, Pt.slots] at X' e1 e2 h1' h2' h3' hsteps
  subst h1'; subst h2'; subst h3'
  exact ⟨v, (T.setVm vm₁).calling g' mk' (Value.ref a :: As).toArray, t, U', L, hT, X', hL, e1, e2, hq2, fun target h => hstep₁ _ fun acts => by rw [doInvoke_state]; exact hsteps.trans h⟩
end GWCD
/-- a reader's cell, an order's -/
abbrev rdO (ol : Nat) (sp wr : Int) (e : Nat) : va_E := oE 5 [.ref ol, .int (iI sp), .int (iI wr), .ref e]
abbrev orO (X : Nat → Nat) (k : Nat) (f s : Int) : va_E := oE 6 [.ref (X (10 + k)), .int (iI f), .int (iI s)]
def atF (Pd : Int → Int) (ln q : Int) : Int := if q < ln then Pd q else 0
/-- the word of a sign -/
def kwF (z : Int) : Nat := if z = 109 then 0 else if z = 108 then 1 else if z = 115 then 2 else if z = 116 then 3 else if z = 98 then 4 else if z = 118 then 5 else 6
section RDS
variable {Pd : Int → Int} {ln q : Int}
theorem at_r (hp : padW Pd ln) (h0 : 0 ≤ q) : 0 ≤ atF Pd ln q ∧ atF Pd ln q ≤ 126 := by
  have := hp.2 q h0
  unfold atF
  split <;> omega
theorem at_d : (48 ≤ atF Pd ln q ∧ atF Pd ln q ≤ 57) ↔ 0 ≤ dg Pd ln q := by
  unfold atF dg
  by_cases h : q < ln
  · rw [if_pos h, if_pos h]
    split <;> omega
  · rw [if_neg h, if_neg h]
    omega
theorem at_v (h : 0 ≤ dg Pd ln q) : atF Pd ln q - 48 = dg Pd ln q := by
  unfold atF dg at *
  by_cases e : q < ln
  · rw [if_pos e] at h ⊢
    rw [if_pos e]
    split at h
    · rw [if_pos ‹_›]
    · omega
  · rw [if_neg e] at h; omega
theorem at_c {c : Int} (hc : 0 < c) : (atF Pd ln q = c) ↔ cd Pd ln q = c := by
  unfold atF cd
  split <;> omega
theorem at_k (hp : padW Pd ln) (h0 : 0 ≤ q) : kwF (atF Pd ln q) = kwF (cd Pd ln q) := by
  have := hp.2 q h0
  unfold atF cd
  by_cases e : q < ln
  · rw [if_pos e, if_pos e]
  · rw [if_neg e, if_neg e]; rfl
theorem kw_c {z : Int} : (kwF z = 0 ↔ z = 109) ∧ (kwF z = 1 ↔ z = 108) ∧ (kwF z = 2 ↔ z = 115) ∧ (kwF z = 3 ↔ z = 116) ∧ (kwF z = 4 ↔ z = 98) ∧ (kwF z = 5 ↔ z = 118) ∧ kwF z ≤ 6 := by
  unfold kwF
  (repeat' split) <;> omega
end RDS

set_option maxHeartbeats 4000000 in
theorem m_X7_init {l : Launch} {D : va_G} {X : Nat → Nat} {b0 : Nat} {a w : Nat} {x y : Int} {G : gM} (hG : G a = some (oE 6 [.null, .int (iI 0), .int (iI 0)])) : gMet l D X b0 yX7_init cX7_init 4 none (rmE 1 0 0) [.ref a, .ref w, .int (iI x), .int (iI y)] G (eV (gup G a (oE 6 [.ref w, .int (iI x), .int (iI y)]))) := by
  refine gm_start (own := "EnergyDiscs$Order") (lv := [some (.ref a), some (.ref w), some (.int (iI x)), some (.int (iI y))]) (by decide +kernel) rfl (Nat.le_of_ble_eq_true rfl) rfl (fun p_ e_ s_ m_ args_ below_ meth_ c_ hc hnm => ?_)
  refine gw_aload_n (q := 1) hc dX7_init_0 rfl rfl xg_0 ?_
  refine gw_objInit (q := 4) hc dX7_init_1 rfl q1169 (Nat.le_of_ble_eq_true rfl) (Nat.le_of_ble_eq_true rfl) ?_
  refine gw_aload_n (q := 5) hc dX7_init_4 rfl rfl xg_0 ?_
  refine gw_aload_n (q := 6) hc dX7_init_5 rfl rfl xg_1 ?_
  refine gw_putF (q := 9) hc dX7_init_6 rfl cE_OR 0 (by decide) q1170 (fun _ h => h) rfl hnm rfl hG ⟨rfl, rfl⟩ rfl (Nat.le_of_ble_eq_true rfl) ?_
  refine gw_aload_n (q := 10) hc dX7_init_9 rfl rfl xg_0 ?_
  refine gw_iload_n (q := 11) hc dX7_init_10 rfl rfl xg_2 ?_
  refine gw_putF (q := 14) hc dX7_init_11 rfl cE_OR 1 (by decide) q1172 (fun _ h => h) rfl hnm rfl gup_s ⟨rfl, rfl⟩ rfl (Nat.le_of_ble_eq_true rfl) ?_
  refine gw_G gup_gup ?_
  refine gw_aload_n (q := 15) hc dX7_init_14 rfl rfl xg_0 ?_
  refine gw_iload_n (q := 16) hc dX7_init_15 rfl rfl xg_3 ?_
  refine gw_putF (q := 19) hc dX7_init_16 rfl cE_OR 2 (by decide) q1174 (fun _ h => h) rfl hnm rfl gup_s ⟨rfl, rfl⟩ rfl (Nat.le_of_ble_eq_true rfl) ?_
  refine gw_G gup_gup ?_
  exact gw_vret hc dX7_init_19 ⟨rfl, rfl⟩

set_option maxHeartbeats 4000000 in
theorem m_X6_isDigit {l : Launch} {D : va_G} {X : Nat → Nat} {b0 : Nat} {z : Int} {G : gM} (hz : rI z) : gMet l D X b0 yX6_isDigit cX6_isDigit 1 (some FieldType.boolean) (rmE 0 0 0) [.int (iI z)] G (eB (48 ≤ z ∧ z ≤ 57) G) := by
  refine gm_start (own := "EnergyDiscs$Sign") (lv := [some (.int (iI z))]) (by decide +kernel) rfl (Nat.le_of_ble_eq_true rfl) rfl (fun p_ e_ s_ m_ args_ below_ meth_ c_ hc hnm => ?_)
  refine gw_iload_n (q := 1) hc dX6_isDigit_0 rfl rfl xg_0 ?_
  refine gw_bipush (q := 3) hc dX6_isDigit_1 rfl (by decide) ?_
  refine gw_icmp_lt  (q := 6) (t := 16) hc dX6_isDigit_3 rfl (by decide) (by omega) (by omega) (fun c3 => ?_) (fun c3 => ?_)
  · skip
    refine gw_iconst (q := 17) hc dX6_isDigit_16 rfl ?_
    exact gw_zret hc (by first | exact Or.inl rfl | exact Or.inr rfl | omega) dX6_isDigit_17 ⟨_, rfl, ⟨by omega, rfl⟩⟩
  · skip
    refine gw_iload_n (q := 7) hc dX6_isDigit_6 rfl rfl xg_0 ?_
    refine gw_bipush (q := 9) hc dX6_isDigit_7 rfl (by decide) ?_
    refine gw_icmp_gt  (q := 12) (t := 16) hc dX6_isDigit_9 rfl (by decide) (by omega) (by omega) (fun c9 => ?_) (fun c9 => ?_)
    · skip
      refine gw_iconst (q := 17) hc dX6_isDigit_16 rfl ?_
      exact gw_zret hc (by first | exact Or.inl rfl | exact Or.inr rfl | omega) dX6_isDigit_17 ⟨_, rfl, ⟨by omega, rfl⟩⟩
    · skip
      refine gw_iconst (q := 13) hc dX6_isDigit_12 rfl ?_
      refine gw_goto (q := 17) hc dX6_isDigit_13 (by decide) ?_
      exact gw_zret hc (by first | exact Or.inl rfl | exact Or.inr rfl | omega) dX6_isDigit_17 ⟨_, rfl, ⟨by omega, rfl⟩⟩

set_option maxHeartbeats 4000000 in
theorem m_X6_word {l : Launch} {D : va_G} {X : Nat → Nat} {b0 : Nat} {z : Int} {G : gM} (hz : rI z) : gMet l D X b0 yX6_word cX6_word 1 (some (FieldType.object "java/lang/String")) (rmE 0 0 0) [.int (iI z)] G (eA (X (10 + kwF z)) G) := by
  refine gm_start (own := "EnergyDiscs$Sign") (lv := [some (.int (iI z))]) (by decide +kernel) rfl (Nat.le_of_ble_eq_true rfl) rfl (fun p_ e_ s_ m_ args_ below_ meth_ c_ hc hnm => ?_)
  refine gw_iload_n (q := 1) hc dX6_word_0 rfl rfl xg_0 ?_
  rcases (by omega : z = 98 ∨ z = 108 ∨ z = 109 ∨ z = 115 ∨ z = 116 ∨ z = 118 ∨ (z ≠ 98 ∧ z ≠ 108 ∧ z ≠ 109 ∧ z ≠ 115 ∧ z ≠ 116 ∧ z ≠ 118)) with w1 | w1 | w1 | w1 | w1 | w1 | w1
  · refine gw_lookup (t := 80) hc dX6_word_1 (by omega) (by decide) (by rw [w1] <;> rfl) (by decide) ?_
    refine gw_ldcS (q := 82) hc dX6_word_80 rfl (k := 4) (by decide) ?_
    refine gw_goto (q := 92) hc dX6_word_82 (by decide) ?_
    exact gw_aret hc rfl (by first | exact Or.inl ⟨_, rfl⟩ | exact Or.inr ⟨_, rfl⟩) dX6_word_92 ⟨_, rfl, ⟨by rw [w1]; rfl, rfl⟩⟩
  · refine gw_lookup (t := 65) hc dX6_word_1 (by omega) (by decide) (by rw [w1] <;> rfl) (by decide) ?_
    refine gw_ldcS (q := 67) hc dX6_word_65 rfl (k := 1) (by decide) ?_
    refine gw_goto (q := 92) hc dX6_word_67 (by decide) ?_
    exact gw_aret hc rfl (by first | exact Or.inl ⟨_, rfl⟩ | exact Or.inr ⟨_, rfl⟩) dX6_word_92 ⟨_, rfl, ⟨by rw [w1]; rfl, rfl⟩⟩
  · refine gw_lookup (t := 60) hc dX6_word_1 (by omega) (by decide) (by rw [w1] <;> rfl) (by decide) ?_
    refine gw_ldcS (q := 62) hc dX6_word_60 rfl (k := 0) (by decide) ?_
    refine gw_goto (q := 92) hc dX6_word_62 (by decide) ?_
    exact gw_aret hc rfl (by first | exact Or.inl ⟨_, rfl⟩ | exact Or.inr ⟨_, rfl⟩) dX6_word_92 ⟨_, rfl, ⟨by rw [w1]; rfl, rfl⟩⟩
  · refine gw_lookup (t := 70) hc dX6_word_1 (by omega) (by decide) (by rw [w1] <;> rfl) (by decide) ?_
    refine gw_ldcS (q := 72) hc dX6_word_70 rfl (k := 2) (by decide) ?_
    refine gw_goto (q := 92) hc dX6_word_72 (by decide) ?_
    exact gw_aret hc rfl (by first | exact Or.inl ⟨_, rfl⟩ | exact Or.inr ⟨_, rfl⟩) dX6_word_92 ⟨_, rfl, ⟨by rw [w1]; rfl, rfl⟩⟩
  · refine gw_lookup (t := 75) hc dX6_word_1 (by omega) (by decide) (by rw [w1] <;> rfl) (by decide) ?_
    refine gw_ldcS (q := 77) hc dX6_word_75 rfl (k := 3) (by decide) ?_
    refine gw_goto (q := 92) hc dX6_word_77 (by decide) ?_
    exact gw_aret hc rfl (by first | exact Or.inl ⟨_, rfl⟩ | exact Or.inr ⟨_, rfl⟩) dX6_word_92 ⟨_, rfl, ⟨by rw [w1]; rfl, rfl⟩⟩
  · refine gw_lookup (t := 85) hc dX6_word_1 (by omega) (by decide) (by rw [w1] <;> rfl) (by decide) ?_
    refine gw_ldcS (q := 87) hc dX6_word_85 rfl (k := 5) (by decide) ?_
    refine gw_goto (q := 92) hc dX6_word_87 (by decide) ?_
    exact gw_aret hc rfl (by first | exact Or.inl ⟨_, rfl⟩ | exact Or.inr ⟨_, rfl⟩) dX6_word_92 ⟨_, rfl, ⟨by rw [w1]; rfl, rfl⟩⟩
  · refine gw_lookup (off := 89) (t := 90) hc dX6_word_1 (by omega) (by decide) (by simp only [Op.lookupswitch.offset_cons]; (repeat rw [if_neg (by omega)]); first | done | rfl) (by decide) ?_
    refine gw_ldcS (q := 92) hc dX6_word_90 rfl (k := 6) (by decide) ?_
    exact gw_aret hc rfl (by first | exact Or.inl ⟨_, rfl⟩ | exact Or.inr ⟨_, rfl⟩) dX6_word_92 ⟨_, rfl, ⟨by unfold kwF; rw [if_neg w1.2.2.1, if_neg w1.2.1, if_neg w1.2.2.2.1, if_neg w1.2.2.2.2.1, if_neg w1.1, if_neg w1.2.2.2.2.2], rfl⟩⟩

set_option maxHeartbeats 4000000 in
theorem m_X5_text {l : Launch} {D : va_G} {X : Nat → Nat} {b0 : Nat} {tg : Nat → Nat} {rd ol e a0 pl sv pd : Nat} {sp wr ln : Int} {Pd : Int → Int} {G : gM} (hR : G rd = some (rdO ol sp wr e)) (hE : G e = some (edO a0 pl sv pd)) (hS : sbR D tg 996 pd ln Pd G) (hp : padW Pd ln) : gMet l D X b0 yX5_text cX5_text 1 (some (FieldType.object "java/lang/CharSequence")) (rmE 0 0 0) [.ref rd] G (eA pd G) := by
  refine gm_start (own := "EnergyDiscs$Reader") (lv := [some (.ref rd)]) (by decide +kernel) rfl (Nat.le_of_ble_eq_true rfl) rfl (fun p_ e_ s_ m_ args_ below_ meth_ c_ hc hnm => ?_)
  obtain ⟨vl, mb, cap, f, hG, -⟩ := id hS
  have hpb := hp.1
  have hre : rd ≠ e := fun z => by rw [z, hE] at hR; cases hR
  refine gw_aload_n (q := 1) hc dX5_text_0 rfl rfl xg_0 ?_
  refine gw_get (q := 4) hc dX5_text_1 rfl cE_RE 3 (by decide) q1204 (fun _ h => h) hR rfl ?_
  refine gw_getN (q := 7) hc dX5_text_4 rfl cE_ED 3 (by decide) q201 (fun _ h => h) hE rfl ?_
  exact gw_aret hc rfl (by first | exact Or.inl ⟨_, rfl⟩ | exact Or.inr ⟨_, rfl⟩) dX5_text_7 ⟨_, rfl, ⟨rfl, rfl⟩⟩

theorem mf_X5_text_5 : mF "EnergyDiscs$Reader" ⟨"EnergyDiscs$Sign", "text", "()Ljava/lang/CharSequence;"⟩ yX5_text cX5_text 1 (some (FieldType.object "java/lang/CharSequence")) 0 := ⟨⟨by decide +kernel, by decide +kernel, by decide +kernel⟩, q1033, q1035, q95, q1037, q1031, q1030, q1036, q1034, q1032, by decide +kernel⟩
theorem mf_J4_length_8 : mF "java/lang/StringBuilder" ⟨"java/lang/CharSequence", "length", "()I"⟩ yJ4_length cJ4_length 1 (some FieldType.int) 0 := ⟨⟨by decide +kernel, by decide +kernel, by decide +kernel⟩, q1047, q857, q79, q859, q1041, q1040, q1049, q1048, q1046, by decide +kernel⟩
theorem mf_J4_charAt_8 : mF "java/lang/StringBuilder" ⟨"java/lang/CharSequence", "charAt", "(I)C"⟩ yJ4_charAt cJ4_charAt 2 (some FieldType.char) 1 := ⟨⟨by decide +kernel, by decide +kernel, by decide +kernel⟩, q1071, q868, q79, q870, q1053, q1052, q1073, q1072, q1046, by decide +kernel⟩
set_option maxHeartbeats 4000000 in
theorem m_X6_at {l : Launch} {D : va_G} {X : Nat → Nat} {b0 : Nat} {tg : Nat → Nat} {rd ol e a0 pl sv pd : Nat} {sp wr ln : Int} {Pd : Int → Int} {G : gM} (hR : G rd = some (rdO ol sp wr e)) (hE : G e = some (edO a0 pl sv pd)) (hS : sbR D tg 996 pd ln Pd G) (hp : padW Pd ln) {q : Int} (hq : 0 ≤ q ∧ q ≤ 200) : gMet l D X b0 yX6_at cX6_at 2 (some FieldType.char) (rmE 4 0 0) [.ref rd, .int (iI q)] G (eI (atF Pd ln q) G) := by
  refine gm_start (own := "EnergyDiscs$Sign") (lv := [some (.ref rd), some (.int (iI q))]) (by decide +kernel) rfl (Nat.le_of_ble_eq_true rfl) rfl (fun p_ e_ s_ m_ args_ below_ meth_ c_ hc hnm => ?_)
  obtain ⟨vl, mb, cap, f, hG, -⟩ := id hS
  have hpb := hp.1
  have hre : rd ≠ e := fun z => by rw [z, hE] at hR; cases hR
  refine gw_iload_n (q := 1) hc dX6_at_0 rfl rfl xg_1 ?_
  refine gw_aload_n (q := 2) hc dX6_at_1 rfl rfl xg_0 ?_
  refine gw_callF (q := 7) (bc' := 0) (bs' := 0) (As := []) hc dX6_at_2 rfl cE_RE q1029 mf_X5_text_5 rfl rfl (m_X5_text hR hE hS hp) (rc_o hc cE_RE hR) ⟨Nat.le_of_ble_eq_true rfl, Nat.le_of_ble_eq_true rfl⟩ (Nat.le_of_ble_eq_true rfl) (Nat.le_of_ble_eq_true rfl) (Nat.le_of_ble_eq_true rfl) (goA fun r2 G2 h2 => ?_)
  obtain ⟨er2, hgg⟩ := h2
  rw [hgg, er2]
  refine gw_callF (q := 12) (bc' := 0) (bs' := 0) (As := []) hc dX6_at_7 rfl cE_SB q1039 mf_J4_length_8 rfl rfl (m_J4_length hG) (rc_o hc cE_SB hG) ⟨Nat.le_of_ble_eq_true rfl, Nat.le_of_ble_eq_true rfl⟩ (Nat.le_of_ble_eq_true rfl) (Nat.le_of_ble_eq_true rfl) (Nat.le_of_ble_eq_true rfl) (goI fun r7 G7 h7 => ?_)
  obtain ⟨er7, hgg⟩ := h7
  rw [hgg, er7]
  refine gw_icmp_ge  (q := 15) (t := 30) hc dX6_at_12 rfl (by decide) (by omega) (by omega) (fun c12 => ?_) (fun c12 => ?_)
  · skip
    refine gw_iconst (q := 31) hc dX6_at_30 rfl ?_
    have hpq := hp.2 q (by omega)
    exact gw_cret hc (by omega) dX6_at_31 ⟨_, rfl, ⟨by unfold atF; rw [if_neg (by omega)], rfl⟩⟩
  · skip
    refine gw_aload_n (q := 16) hc dX6_at_15 rfl rfl xg_0 ?_
    refine gw_callF (q := 21) (bc' := 0) (bs' := 0) (As := []) hc dX6_at_16 rfl cE_RE q1029 mf_X5_text_5 rfl rfl (m_X5_text hR hE hS hp) (rc_o hc cE_RE hR) ⟨Nat.le_of_ble_eq_true rfl, Nat.le_of_ble_eq_true rfl⟩ (Nat.le_of_ble_eq_true rfl) (Nat.le_of_ble_eq_true rfl) (Nat.le_of_ble_eq_true rfl) (goA fun r16 G16 h16 => ?_)
    obtain ⟨er16, hgg⟩ := h16
    rw [hgg, er16]
    refine gw_iload_n (q := 22) hc dX6_at_21 rfl rfl xg_1 ?_
    refine gw_callF (q := 27) (bc' := 0) (bs' := 0) (As := [_]) hc dX6_at_22 rfl cE_SB q1051 mf_J4_charAt_8 rfl rfl (m_J4_charAt hS (by omega) (by have := hp.2 q (by omega) (by omega); omega)) (rc_o hc cE_SB hG) ⟨Nat.le_of_ble_eq_true rfl, Nat.le_of_ble_eq_true rfl⟩ (Nat.le_of_ble_eq_true rfl) (Nat.le_of_ble_eq_true rfl) (Nat.le_of_ble_eq_true rfl) (goI fun r22 G22 h22 => ?_)
    obtain ⟨er22, hgg⟩ := h22
    rw [hgg, er22]
    refine gw_goto (q := 31) hc dX6_at_27 (by decide) ?_
    have hpq := hp.2 q (by omega)
    exact gw_cret hc (by omega) dX6_at_31 ⟨_, rfl, ⟨by unfold atF; rw [if_pos (by omega)], rfl⟩⟩

set_option maxHeartbeats 4000000 in
theorem m_X5_next {l : Launch} {D : va_G} {X : Nat → Nat} {b0 : Nat} {tg : Nat → Nat} {rd ol e a0 pl sv pd : Nat} {sp wr ln : Int} {Pd : Int → Int} {G : gM} (hR : G rd = some (rdO ol sp wr e)) (hE : G e = some (edO a0 pl sv pd)) (hS : sbR D tg 996 pd ln Pd G) (hp : padW Pd ln) (hsp : 0 ≤ sp ∧ sp ≤ 100) (hwr : wr = 0 ∨ wr = 1) : gMet l D X b0 yX5_next cX5_next 1 (some FieldType.char) (rmE 5 0 0) [.ref rd] G (eI (atF Pd ln sp) G) := by
  refine gm_start (own := "EnergyDiscs$Reader") (lv := [some (.ref rd)]) (by decide +kernel) rfl (Nat.le_of_ble_eq_true rfl) rfl (fun p_ e_ s_ m_ args_ below_ meth_ c_ hc hnm => ?_)
  obtain ⟨vl, mb, cap, f, hG, -⟩ := id hS
  have hpb := hp.1
  have hre : rd ≠ e := fun z => by rw [z, hE] at hR; cases hR
  refine gw_aload_n (q := 1) hc dX5_next_0 rfl rfl xg_0 ?_
  refine gw_aload_n (q := 2) hc dX5_next_1 rfl rfl xg_0 ?_
  refine gw_get (q := 5) hc dX5_next_2 rfl cE_RE 1 (by decide) q1200 (fun _ h => h) hR rfl ?_
  refine gw_callD (q := 8) (bc' := 0) (bs' := 0) (As := [_]) hc dX5_next_5 rfl q1025 q96 q1027 rfl rfl (m_X6_at hR hE hS hp (by omega)) (rc_o hc cE_RE hR) ⟨Nat.le_of_ble_eq_true rfl, Nat.le_of_ble_eq_true rfl⟩ (Nat.le_of_ble_eq_true rfl) (Nat.le_of_ble_eq_true rfl) (Nat.le_of_ble_eq_true rfl) (goI fun r5 G5 h5 => ?_)
  obtain ⟨er5, hgg⟩ := h5
  rw [hgg, er5]
  have hat := at_r hp hsp.1
  exact gw_cret hc (by omega) dX5_next_8 ⟨_, rfl, ⟨rfl, rfl⟩⟩

theorem mw_X5_next : mV "EnergyDiscs$Reader" yX5_next cX5_next 1 (some FieldType.char) 0 := ⟨⟨rfl, by decide +kernel, by decide +kernel, by decide +kernel⟩, q1020, qs32, q95, q1021⟩
theorem mw_X6_isDigit : mS yX6_isDigit cX6_isDigit 1 (some FieldType.boolean) 1 := ⟨⟨by decide +kernel, by decide +kernel, by decide +kernel⟩, q1160, q96, q1161⟩
set_option maxHeartbeats 4000000 in
theorem m_X5_seesDigit {l : Launch} {D : va_G} {X : Nat → Nat} {b0 : Nat} {tg : Nat → Nat} {rd ol e a0 pl sv pd : Nat} {sp wr ln : Int} {Pd : Int → Int} {G : gM} (hR : G rd = some (rdO ol sp wr e)) (hE : G e = some (edO a0 pl sv pd)) (hS : sbR D tg 996 pd ln Pd G) (hp : padW Pd ln) (hsp : 0 ≤ sp ∧ sp ≤ 100) (hwr : wr = 0 ∨ wr = 1) : gMet l D X b0 yX5_seesDigit cX5_seesDigit 1 (some FieldType.boolean) (rmE 6 0 0) [.ref rd] G (eB (wr = 0 ∧ 0 ≤ dg Pd ln sp) G) := by
  refine gm_start (own := "EnergyDiscs$Reader") (lv := [some (.ref rd)]) (by decide +kernel) rfl (Nat.le_of_ble_eq_true rfl) rfl (fun p_ e_ s_ m_ args_ below_ meth_ c_ hc hnm => ?_)
  obtain ⟨vl, mb, cap, f, hG, -⟩ := id hS
  have hpb := hp.1
  have hre : rd ≠ e := fun z => by rw [z, hE] at hR; cases hR
  have hat := at_r hp hsp.1
  have hatd := at_d (Pd := Pd) (ln := ln) (q := sp)
  refine gw_aload_n (q := 1) hc dX5_seesDigit_0 rfl rfl xg_0 ?_
  refine gw_get (q := 4) hc dX5_seesDigit_1 rfl cE_RE 2 (by decide) q1202 (fun _ h => h) hR rfl ?_
  refine gw_if_ne  (q := 7) (t := 21) hc dX5_seesDigit_4 rfl (by decide) (by omega) (fun c4 => ?_) (fun c4 => ?_)
  · skip
    refine gw_iconst (q := 22) hc dX5_seesDigit_21 rfl ?_
    exact gw_zret hc (by first | exact Or.inl rfl | exact Or.inr rfl | omega) dX5_seesDigit_22 ⟨_, rfl, ⟨by omega, rfl⟩⟩
  · skip
    refine gw_aload_n (q := 8) hc dX5_seesDigit_7 rfl rfl xg_0 ?_
    refine gw_callV (q := 11) (bc' := 0) (bs' := 0) (As := []) hc dX5_seesDigit_8 rfl q1018 mw_X5_next (rc_o hc cE_RE hR) rfl rfl (m_X5_next hR hE hS hp hsp hwr) ⟨Nat.le_of_ble_eq_true rfl, Nat.le_of_ble_eq_true rfl⟩ (Nat.le_of_ble_eq_true rfl) (Nat.le_of_ble_eq_true rfl) (Nat.le_of_ble_eq_true rfl) (goI fun r8 G8 h8 => ?_)
    obtain ⟨er8, hgg⟩ := h8
    rw [hgg, er8]
    refine gw_callS (q := 14) (bc' := 0) (bs' := 0) (As := [_]) hc dX5_seesDigit_11 rfl q1159 mw_X6_isDigit rfl rfl (m_X6_isDigit ⟨by omega, by omega⟩) ⟨Nat.le_of_ble_eq_true rfl, Nat.le_of_ble_eq_true rfl⟩ (Nat.le_of_ble_eq_true rfl) (Nat.le_of_ble_eq_true rfl) (Nat.le_of_ble_eq_true rfl) (goI fun r11 G11 h11 => ?_)
    obtain ⟨b11, hgg⟩ := h11
    rw [hgg]
    refine gw_if_eq  (q := 17) (t := 21) hc dX5_seesDigit_14 rfl (by decide) (by omega) (fun c14 => ?_) (fun c14 => ?_)
    · skip
      refine gw_iconst (q := 22) hc dX5_seesDigit_21 rfl ?_
      exact gw_zret hc (by first | exact Or.inl rfl | exact Or.inr rfl | omega) dX5_seesDigit_22 ⟨_, rfl, ⟨by omega, rfl⟩⟩
    · skip
      refine gw_iconst (q := 18) hc dX5_seesDigit_17 rfl ?_
      refine gw_goto (q := 22) hc dX5_seesDigit_18 (by decide) ?_
      exact gw_zret hc (by first | exact Or.inl rfl | exact Or.inr rfl | omega) dX5_seesDigit_22 ⟨_, rfl, ⟨by omega, rfl⟩⟩

set_option maxHeartbeats 4000000 in
theorem m_X5_sign {l : Launch} {D : va_G} {X : Nat → Nat} {b0 : Nat} {tg : Nat → Nat} {rd ol e a0 pl sv pd : Nat} {sp wr ln : Int} {Pd : Int → Int} {G : gM} (hR : G rd = some (rdO ol sp wr e)) (hE : G e = some (edO a0 pl sv pd)) (hS : sbR D tg 996 pd ln Pd G) (hp : padW Pd ln) (hsp : 0 ≤ sp ∧ sp ≤ 100) (hwr : wr = 0 ∨ wr = 1) {c : Int} (hc9 : 0 < c ∧ c < 128) : gMet l D X b0 yX5_sign cX5_sign 2 none (rmE 6 0 0) [.ref rd, .int (iI c)] G (eV (gup G rd (rdO ol (if wr = 0 ∧ atF Pd ln sp = c then sp + 1 else sp) (if wr = 0 ∧ atF Pd ln sp = c then 0 else 1) e))) := by
  refine gm_start (own := "EnergyDiscs$Reader") (lv := [some (.ref rd), some (.int (iI c))]) (by decide +kernel) rfl (Nat.le_of_ble_eq_true rfl) rfl (fun p_ e_ s_ m_ args_ below_ meth_ c_ hc hnm => ?_)
  obtain ⟨vl, mb, cap, f, hG, -⟩ := id hS
  have hpb := hp.1
  have hre : rd ≠ e := fun z => by rw [z, hE] at hR; cases hR
  have hat := at_r hp hsp.1
  refine gw_aload_n (q := 1) hc dX5_sign_0 rfl rfl xg_0 ?_
  refine gw_aload_n (q := 2) hc dX5_sign_1 rfl rfl xg_0 ?_
  refine gw_get (q := 5) hc dX5_sign_2 rfl cE_RE 2 (by decide) q1202 (fun _ h => h) hR rfl ?_
  refine gw_if_ne  (q := 8) (t := 16) hc dX5_sign_5 rfl (by decide) (by omega) (fun c5 => ?_) (fun c5 => ?_)
  · skip
    refine gw_iconst (q := 17) hc dX5_sign_16 rfl ?_
    refine gw_goto (q := 21) hc dX5_sign_17 (by decide) ?_
    refine gw_put (q := 24) hc dX5_sign_21 rfl cE_RE 2 (by decide) q1202 (fun _ h => h) rfl hR (nz (by omega)) rfl (Nat.le_of_ble_eq_true rfl) ?_
    refine gw_aload_n (q := 25) hc dX5_sign_24 rfl rfl xg_0 ?_
    refine gw_dup (q := 26) hc dX5_sign_25 rfl rfl ?_
    refine gw_get (q := 29) hc dX5_sign_26 rfl cE_RE 1 (by decide) q1200 (fun _ h => h) gup_s rfl ?_
    refine gw_aload_n (q := 30) hc dX5_sign_29 rfl rfl xg_0 ?_
    refine gw_get (q := 33) hc dX5_sign_30 rfl cE_RE 2 (by decide) q1202 (fun _ h => h) gup_s rfl ?_
    refine gw_if_eq  (q := 36) (t := 40) hc dX5_sign_33 rfl (by decide) (by omega) (fun c33 => ?_) (fun c33 => ?_)
    · exfalso; omega
    · skip
      refine gw_iconst (q := 37) hc dX5_sign_36 rfl ?_
      refine gw_goto (q := 41) hc dX5_sign_37 (by decide) ?_
      refine gw_iadd (q := 42) hc dX5_sign_41 rfl ?_
      refine gw_put (q := 45) hc dX5_sign_42 rfl cE_RE 1 (by decide) q1200 (fun _ h => h) rfl gup_s ⟨rfl, rfl⟩ rfl (Nat.le_of_ble_eq_true rfl) ?_
      refine gw_G gup_gup ?_
      exact gw_vret hc dX5_sign_45 ⟨rfl, by rw [if_neg (by omega), if_neg (by omega), Int.add_zero]; rfl⟩
  · skip
    refine gw_aload_n (q := 9) hc dX5_sign_8 rfl rfl xg_0 ?_
    refine gw_callV (q := 12) (bc' := 0) (bs' := 0) (As := []) hc dX5_sign_9 rfl q1018 mw_X5_next (rc_o hc cE_RE hR) rfl rfl (m_X5_next hR hE hS hp hsp hwr) ⟨Nat.le_of_ble_eq_true rfl, Nat.le_of_ble_eq_true rfl⟩ (Nat.le_of_ble_eq_true rfl) (Nat.le_of_ble_eq_true rfl) (Nat.le_of_ble_eq_true rfl) (goI fun r9 G9 h9 => ?_)
    obtain ⟨er9, hgg⟩ := h9
    rw [hgg, er9]
    refine gw_iload_n (q := 13) hc dX5_sign_12 rfl rfl xg_1 ?_
    refine gw_icmp_eq  (q := 16) (t := 20) hc dX5_sign_13 rfl (by decide) (by omega) (by omega) (fun c13 => ?_) (fun c13 => ?_)
    · skip
      refine gw_iconst (q := 21) hc dX5_sign_20 rfl ?_
      refine gw_put (q := 24) hc dX5_sign_21 rfl cE_RE 2 (by decide) q1202 (fun _ h => h) rfl hR (nz (by omega)) rfl (Nat.le_of_ble_eq_true rfl) ?_
      refine gw_aload_n (q := 25) hc dX5_sign_24 rfl rfl xg_0 ?_
      refine gw_dup (q := 26) hc dX5_sign_25 rfl rfl ?_
      refine gw_get (q := 29) hc dX5_sign_26 rfl cE_RE 1 (by decide) q1200 (fun _ h => h) gup_s rfl ?_
      refine gw_aload_n (q := 30) hc dX5_sign_29 rfl rfl xg_0 ?_
      refine gw_get (q := 33) hc dX5_sign_30 rfl cE_RE 2 (by decide) q1202 (fun _ h => h) gup_s rfl ?_
      refine gw_if_eq  (q := 36) (t := 40) hc dX5_sign_33 rfl (by decide) (by omega) (fun c33 => ?_) (fun c33 => ?_)
      · skip
        refine gw_iconst (q := 41) hc dX5_sign_40 rfl ?_
        refine gw_iadd (q := 42) hc dX5_sign_41 rfl ?_
        refine gw_put (q := 45) hc dX5_sign_42 rfl cE_RE 1 (by decide) q1200 (fun _ h => h) rfl gup_s ⟨rfl, rfl⟩ rfl (Nat.le_of_ble_eq_true rfl) ?_
        refine gw_G gup_gup ?_
        exact gw_vret hc dX5_sign_45 ⟨rfl, by rw [if_pos (by omega), if_pos (by omega)]; rfl⟩
      · exfalso; omega
    · skip
      refine gw_iconst (q := 17) hc dX5_sign_16 rfl ?_
      refine gw_goto (q := 21) hc dX5_sign_17 (by decide) ?_
      refine gw_put (q := 24) hc dX5_sign_21 rfl cE_RE 2 (by decide) q1202 (fun _ h => h) rfl hR (nz (by omega)) rfl (Nat.le_of_ble_eq_true rfl) ?_
      refine gw_aload_n (q := 25) hc dX5_sign_24 rfl rfl xg_0 ?_
      refine gw_dup (q := 26) hc dX5_sign_25 rfl rfl ?_
      refine gw_get (q := 29) hc dX5_sign_26 rfl cE_RE 1 (by decide) q1200 (fun _ h => h) gup_s rfl ?_
      refine gw_aload_n (q := 30) hc dX5_sign_29 rfl rfl xg_0 ?_
      refine gw_get (q := 33) hc dX5_sign_30 rfl cE_RE 2 (by decide) q1202 (fun _ h => h) gup_s rfl ?_
      refine gw_if_eq  (q := 36) (t := 40) hc dX5_sign_33 rfl (by decide) (by omega) (fun c33 => ?_) (fun c33 => ?_)
      · exfalso; omega
      · skip
        refine gw_iconst (q := 37) hc dX5_sign_36 rfl ?_
        refine gw_goto (q := 41) hc dX5_sign_37 (by decide) ?_
        refine gw_iadd (q := 42) hc dX5_sign_41 rfl ?_
        refine gw_put (q := 45) hc dX5_sign_42 rfl cE_RE 1 (by decide) q1200 (fun _ h => h) rfl gup_s ⟨rfl, rfl⟩ rfl (Nat.le_of_ble_eq_true rfl) ?_
        refine gw_G gup_gup ?_
        exact gw_vret hc dX5_sign_45 ⟨rfl, by rw [if_neg (by omega), if_neg (by omega), Int.add_zero]; rfl⟩

theorem sb_up {D : va_G} {tg : Nat → Nat} {pid rd pd ci : Nat} {f0 : List Value} {ln : Int} {Pd : Int → Int} {G : gM} {e1 : va_E} (hS : sbR D tg pid pd ln Pd G) (hR : G rd = some (.inr (ci, f0))) (hci : ci ≠ 8) : sbR D tg pid pd ln Pd (gup G rd e1) := by
  obtain ⟨vl, mb, cap, f, h1, h2, h3⟩ := hS
  exact ⟨vl, mb, cap, f, by rw [gup_n (fun z => by rw [z, hR] at h1; cases h1; exact hci rfl)]; exact h1, by rw [gup_n (fun z => by rw [z, hR] at h2; cases h2)]; exact h2, h3⟩
theorem mw_X5_seesDigit : mV "EnergyDiscs$Reader" yX5_seesDigit cX5_seesDigit 1 (some FieldType.boolean) 0 := ⟨⟨rfl, by decide +kernel, by decide +kernel, by decide +kernel⟩, q1157, qs34, q95, q1158⟩
set_option maxHeartbeats 4000000 in
theorem m_X5_digit {l : Launch} {D : va_G} {X : Nat → Nat} {b0 : Nat} {tg : Nat → Nat} {rd ol e a0 pl sv pd : Nat} {sp wr ln : Int} {Pd : Int → Int} {G : gM} (hR : G rd = some (rdO ol sp wr e)) (hE : G e = some (edO a0 pl sv pd)) (hS : sbR D tg 996 pd ln Pd G) (hp : padW Pd ln) (hsp : 0 ≤ sp ∧ sp ≤ 100) (hwr : wr = 0 ∨ wr = 1) : gMet l D X b0 yX5_digit cX5_digit 1 (some FieldType.int) (rmE 7 0 0) [.ref rd] G (pI fun r G' => r = (if wr = 0 ∧ 0 ≤ dg Pd ln sp then dg Pd ln sp else 0) ∧ G' = gup G rd (rdO ol (if wr = 0 ∧ 0 ≤ dg Pd ln sp then sp + 1 else sp) (if wr = 0 ∧ 0 ≤ dg Pd ln sp then 0 else 1) e)) := by
  refine gm_start (own := "EnergyDiscs$Reader") (lv := [some (.ref rd)]) (by decide +kernel) rfl (Nat.le_of_ble_eq_true rfl) rfl (fun p_ e_ s_ m_ args_ below_ meth_ c_ hc hnm => ?_)
  obtain ⟨vl, mb, cap, f, hG, -⟩ := id hS
  have hpb := hp.1
  have hre : rd ≠ e := fun z => by rw [z, hE] at hR; cases hR
  refine gw_aload_n (q := 1) hc dX5_digit_0 rfl rfl xg_0 ?_
  refine gw_aload_n (q := 2) hc dX5_digit_1 rfl rfl xg_0 ?_
  refine gw_callV (q := 5) (bc' := 0) (bs' := 0) (As := []) hc dX5_digit_2 rfl q1155 mw_X5_seesDigit (rc_o hc cE_RE hR) rfl rfl (m_X5_seesDigit hR hE hS hp hsp hwr) ⟨Nat.le_of_ble_eq_true rfl, Nat.le_of_ble_eq_true rfl⟩ (Nat.le_of_ble_eq_true rfl) (Nat.le_of_ble_eq_true rfl) (Nat.le_of_ble_eq_true rfl) (goI fun r2 G2 h2 => ?_)
  obtain ⟨b2, hgg⟩ := h2
  rw [hgg]
  refine gw_if_ne  (q := 8) (t := 12) hc dX5_digit_5 rfl (by decide) (by omega) (fun c5 => ?_) (fun c5 => ?_)
  · skip
    refine gw_iconst (q := 13) hc dX5_digit_12 rfl ?_
    refine gw_put (q := 16) hc dX5_digit_13 rfl cE_RE 2 (by decide) q1202 (fun _ h => h) rfl hR (nz (by omega)) rfl (Nat.le_of_ble_eq_true rfl) ?_
    refine gw_aload_n (q := 17) hc dX5_digit_16 rfl rfl xg_0 ?_
    refine gw_get (q := 20) hc dX5_digit_17 rfl cE_RE 2 (by decide) q1202 (fun _ h => h) gup_s rfl ?_
    refine gw_if_eq  (q := 23) (t := 25) hc dX5_digit_20 rfl (by decide) (by omega) (fun c20 => ?_) (fun c20 => ?_)
    · skip
      refine gw_aload_n (q := 26) hc dX5_digit_25 rfl rfl xg_0 ?_
      refine gw_dup (q := 27) hc dX5_digit_26 rfl rfl ?_
      refine gw_get (q := 30) hc dX5_digit_27 rfl cE_RE 1 (by decide) q1200 (fun _ h => h) gup_s rfl ?_
      refine gw_iconst (q := 31) hc dX5_digit_30 rfl ?_
      refine gw_iadd (q := 32) hc dX5_digit_31 rfl ?_
      refine gw_put (q := 35) hc dX5_digit_32 rfl cE_RE 1 (by decide) q1200 (fun _ h => h) rfl gup_s ⟨rfl, rfl⟩ rfl (Nat.le_of_ble_eq_true rfl) ?_
      refine gw_G gup_gup ?_
      have hE1 : gup G rd (rdO ol (sp + 1) 0 e) e = some (edO a0 pl sv pd) := by rw [gup_n (Ne.symm hre)]; exact hE
      have hS1 := sb_up (e1 := rdO ol (sp + 1) 0 e) hS hR (by decide)
      refine gw_aload_n (q := 36) hc dX5_digit_35 rfl rfl xg_0 ?_
      refine gw_aload_n (q := 37) hc dX5_digit_36 rfl rfl xg_0 ?_
      refine gw_get (q := 40) hc dX5_digit_37 rfl cE_RE 1 (by decide) q1200 (fun _ h => h) gup_s rfl ?_
      refine gw_iconst (q := 41) hc dX5_digit_40 rfl ?_
      refine gw_isub (q := 42) hc dX5_digit_41 rfl ?_
      refine gw_callD (q := 45) (bc' := 0) (bs' := 0) (As := [_]) hc dX5_digit_42 rfl q1025 q96 q1027 rfl rfl (m_X6_at gup_s hE1 hS1 hp (by omega)) (rc_o hc cE_RE gup_s) ⟨Nat.le_of_ble_eq_true rfl, Nat.le_of_ble_eq_true rfl⟩ (Nat.le_of_ble_eq_true rfl) (Nat.le_of_ble_eq_true rfl) (Nat.le_of_ble_eq_true rfl) (goI fun r42 G42 h42 => ?_)
      obtain ⟨er42, hgg⟩ := h42
      rw [hgg, er42]
      rw [show sp + 1 - 1 = sp by omega]
      refine gw_bipush (q := 47) hc dX5_digit_45 rfl (by decide) ?_
      refine gw_isub (q := 48) hc dX5_digit_47 rfl ?_
      exact gw_iret hc dX5_digit_48 ⟨_, rfl, ⟨by rw [if_pos (by omega)]; exact at_v (by omega), by rw [if_pos (by omega), if_pos (by omega)]⟩⟩
    · exfalso; omega
  · skip
    refine gw_iconst (q := 9) hc dX5_digit_8 rfl ?_
    refine gw_goto (q := 13) hc dX5_digit_9 (by decide) ?_
    refine gw_put (q := 16) hc dX5_digit_13 rfl cE_RE 2 (by decide) q1202 (fun _ h => h) rfl hR (nz (by omega)) rfl (Nat.le_of_ble_eq_true rfl) ?_
    refine gw_aload_n (q := 17) hc dX5_digit_16 rfl rfl xg_0 ?_
    refine gw_get (q := 20) hc dX5_digit_17 rfl cE_RE 2 (by decide) q1202 (fun _ h => h) gup_s rfl ?_
    refine gw_if_eq  (q := 23) (t := 25) hc dX5_digit_20 rfl (by decide) (by omega) (fun c20 => ?_) (fun c20 => ?_)
    · exfalso; omega
    · skip
      refine gw_iconst (q := 24) hc dX5_digit_23 rfl ?_
      exact gw_iret hc dX5_digit_24 ⟨_, rfl, ⟨by rw [if_neg (by omega)], by rw [if_neg (by omega), if_neg (by omega)]; rfl⟩⟩

