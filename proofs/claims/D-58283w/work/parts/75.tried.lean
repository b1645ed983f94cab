/-! ===== METHODS WITH HANDLERS ===== -/
set_option maxRecDepth 100000
abbrev hhT : List (Nat × Nat × Nat × Nat) := [(5, 20, 27, 0), (27, 29, 27, 0)]
def gMetW (l : Launch) (D : va_G) (X : Nat → Nat) (b0 : Nat) (y : MethodName) (cc : ByteArray) (nL : Nat) (ret : Option FieldType) (hh : List (Nat × Nat × Nat × Nat)) (rm : Room) (av : List Value) (G : gM) (post : Option Value → gM → Prop) : Prop :=
  Met l y (wsW_ y cc nL ret hh) rm (gPc D X b0 av G) (gQ D b0 post) rm.cells rm.slots (bz b0)
abbrev rmL (d mc ms : Nat) : Room := { frames := d, cells := mc, slots := ms, locals := 3072 + 48 * d }
def mVW (C : String) (y : MethodName) (b : ByteArray) (L : Nat) (r : Option FieldType) (hh : List (Nat × Nat × Nat × Nat)) (n : Nat) : Prop := (y.cls ≠ "java/lang/invoke/MethodHandle" ∧ y.cls ≠ "java/lang/invoke/VarHandle" ∧ (parseMethodDescriptor y.desc).map (fun d => d.parameters.length) = some n) ∧ Cond.instanceMethod y ∈ lw_all ∧ Cond.selects C y y ∈ lw_all ∧ Cond.initialized y.cls ∈ lw_all ∧ Cond.codeWith y b L r hh ∈ lw_all
theorem gm_startW {l : Launch} {D : va_G} {X : Nat → Nat} {b0 : Nat} {y : MethodName} {own : String} {cc : ByteArray} {nL : Nat} {ret : Option FieldType} {hh : List (Nat × Nat × Nat × Nat)} {rm : Room} {av : List Value} {G : gM} {post : Option Value → gM → Prop} {lv : List (Option Value)} (hy : plainName y.cls = true) (hown : y.cls = own) (hlen : (lg_sl av).length ≤ nL) (hlv : lpad av nL = lv)
    (body : ∀ (p : Program) (e : Env) (s : State) (m : MethodId) (args : Array Value) (below : List Frame) (meth : Method) (c : Code), cx p s m args meth c D X b0 own cc nL ret → meth.name = y.name → GW p l e rm s m args below meth c D b0 nL (MQ below (gQ D b0 post) args s rm.cells rm.slots (bz b0)) G rm.cells rm.slots 0 lv []) : gMetW l D X b0 y cc nL ret hh rm av G post := by
  refine va_MetW (cc := cc) (maxL := nL) (ret := ret) (hh := hh) hy rfl ?_
  intro p e s m args below meth c s₁ B hml hv
  obtain ⟨rfl, hk, hgh⟩ := hv
  have hts := atoms_spec (ws := wsW_ y cc nL ret hh) B.pre
  have hnm : meth.name = y.name := (name_of_methodNamed B.named B.method).1
  have h := body p e s m _ below meth c ⟨B.exec, B.bytes, hml, by rw [← hown]; exact findClass_of_methodNamed B.named, fun w h => hts w (List.mem_cons_of_mem _ h), B.notSynchronized, B.returns, hk⟩ hnm
  have h2 := h s.heap [] _ 0 0 (by omega) (by omega) ⟨hgh, va_S.rf⟩ (hlv ▸ lpad_lvo hlen)
  rw [lg_entry_eq]
  exact h2
section LMW
variable {p : Program} {l : Launch} {e : Env} {R : Room} {s : State} {m : MethodId} {args : Array Value} {below : List Frame} {meth : Method} {c : Code} {Q : State → Prop}
variable {D : va_G} {X : Nat → Nat} {b0 nL bc bs pc q : Nat} {own : String} {cc : ByteArray} {ret : Option FieldType} {G : gM} {lv lv' lv1 : List (Option Value)} {st : List Value}
variable {st0 : List Value}
theorem gw_callVW (hc : cx p s m args meth c D X b0 own cc nL ret) {y : MethodName} {bytes : ByteArray} {maxL n index : Nat} {ret2 : Option FieldType} {hh : List (Nat × Nat × Nat × Nat)} {rm : Room} {As : List Value} {post : Option Value → gM → Prop} {a : Nat} {C : String} (d : decode cc pc = .ok (.invokevirtual index, 3)) (hq : pc + 3 = q) (hlink : Cond.methodLink own index y ∈ lw_all) (hm : mVW C y bytes maxL ret2 hh n) (hrc : rcv D b0 s G a C) (hn : As.length = n) (hst : st0 = As.reverse ++ .ref a :: st) (hM : gMetW l D X b0 y bytes maxL ret2 hh rm (.ref a :: As) G post) (hR : rm.frames + 1 ≤ R.frames ∧ 8 + (maxL + 11) + rm.locals ≤ R.locals) (hw8 : (st.map fun v => v.category).sum ≤ 8) {bc' bs' : Nat} (hb1 : rm.cells + bc' ≤ bc) (hb2 : rm.slots + bs' ≤ bs) (kk : ∀ (v : Option Value) (G' : gM), post v G' → GW p l e R s m args below meth c D b0 nL Q G' bc' bs' (pc + 3) lv (v.toList ++ st)) : GW p l e R s m args below meth c D b0 nL Q G bc bs pc lv st0 := by
  subst hq
  subst hst
  refine gw_go (a := (Value.ref a :: As).toArray) hb1 hb2 (fun H locs ls cells slots h1 h2 hg hl => ?_) kk
  have hw := hc.2.2.2.2.1
  obtain ⟨⟨hd1, hd2, hd3⟩, hinst, hsel, hini, hcode⟩ := hm
  obtain ⟨cellB, hcB, hoB, hclB⟩ := hrc H locs hg
  have hK : Back l R p e below s args y 3 8 (PreOf R rm.cells rm.slots (gPc D X b0 (.ref a :: As) G)) (PostOf (gQ D b0 post) rm.cells rm.slots (bz b0)) := va_backW (hh := hh) (bytes := bytes) (maxL := maxL) (ret := ret2) hM gPc_blind rfl rfl hR.1 hR.2 (pay_in hw (lw_methW hcode)) List.mem_cons_self (fun a' U hW => word_at hW (Or.inl (by first | rfl | simp [Cond.onTables, Cond.keeps, Cond.steady])) (hw _ hini))
  intro T hT XX
  obtain ⟨mk, methM, hnamed, hmethM, hstM, habM⟩ := Cond.instanceMethod_spec (hw _ hinst)
  obtain ⟨m8, methM', cM, hn8, hmethM', -, -, -, -, -, -, hsigM⟩ := Cond.codeWith_spec (hw _ hcode)
  cases Option.some.inj (hn8.symm.trans hnamed)
  cases hmethM.symm.trans hmethM'
  obtain ⟨c2, r2, m2, q1, q2, q3, q4, kP, hkP, hkPi⟩ := Cond.selects_spec (hw _ hsel)
  cases hclB.symm.trans q1
  cases (State.methodFound?_of_named hnamed ⟨hd1, hd2⟩).symm.trans q2
  cases hnamed.symm.trans q3
  obtain ⟨vm₁, X₁, hstep₁⟩ := XX.invokevirtual hc.1 hc.2.2.2.1 (hw _ hlink) hnamed hmethM hstM hkP hkPi ⟨hd1, hd2⟩ (a := a) (cell := cellB) (by rw [hT]; exact hcB) (fun z h => by rw [h] at hoB; cases hoB) (by rw [Launch.admits_selectMethod XX.admits]; exact q4) hmethM habM hkP hkPi (g := F0 m pc ls (As.reverse ++ .ref a :: st)) rfl (argsL := As) (rest := st) (by
    rw [hsigM] at hd3
    rw [hn]
    exact (Option.some.inj hd3).symm) rfl (by rw [hc.2.1]; exact d)
  obtain ⟨v, ⟨U', l2, c2', s2⟩, X', hpost, hsteps⟩ := hK m meth c ⟨T.setVm vm₁, locs, cells, slots⟩ { F0 m pc ls (As.reverse ++ .ref a :: st) with stack := st } (.invokevirtual index) mk (Value.ref a :: As).toArray X₁ rfl (by rw [hc.2.2.1]; exact hl.1) (by rw [hc.2.1]; exact d) (lv_room hw8) (X₁.named hnamed) ⟨by show cells + rm.cells ≤ R.cells; omega, by show slots + rm.slots ≤ R.slots; omega, gpv hc hg (T.setVm vm₁) hT X₁.warmed⟩
  obtain ⟨g', mk', t, L, e1, e2, hq2, h1', hL, h2', h3'⟩ := hpost
  dsimp only [Pt.U, Pt.locs, Pt.cells, Pt.slots] at X' e1 e2 h1' h2' h3' hsteps
  subst h1'; subst h2'; subst h3'
  exact ⟨v, (T.setVm vm₁).calling g' mk' (Value.ref a :: As).toArray, t, U', L, hT, X', hL, e1, e2, hq2, fun target h => hstep₁ _ fun acts => by rw [doInvoke_state]; exact hsteps.trans h⟩
end LMW
theorem mw_X0_tried : mVW "EnergyDiscs" yX0_tried cX0_tried 5 (some .int) hhT 1 := ⟨⟨by decide +kernel, by decide +kernel, by decide +kernel⟩, q961, qs28, q73, q962⟩
section EDW
variable {D : va_G} {X tg tg' : Nat → Nat} {e nid hid pl sv pd : Nat} {h : Int → Nat} {A : Int → Nat → Nat} {S P L V Pd : Int → Int} {kn ln : Int} {G G' : gM}
theorem ed_othW (hC : edC D X tg e nid pl sv pd h A S P kn L V Pd ln G) (ht : tgW tg tg' hid G G') (h1 : nid ≤ hid ∧ hid ≠ 995 ∧ hid ≠ 996) (hn : nid ≤ 900) : edC D X tg' e nid pl sv pd h A S P kn L V Pd ln G' := by
  obtain ⟨o1, o2, o3⟩ := ed_ow hC ht (by omega)
  exact ⟨o1, fun i hi => by obtain ⟨h1, W, h2⟩ := hC.2.1 i hi; exact ⟨h1, W, hs_tw h2 ht (by omega) (by omega)⟩, hC.2.2.1, hC.2.2.2.1, o2, o3, sb_tw hC.2.2.2.2.2.2 ht (by omega) (by omega)⟩
theorem frE_nw {la t : Nat} {e0 : va_E} (hn : G la = none) : frE tg (fun q => if q = la then t else tg q) G (gup G la e0) := fun q f hf _ _ => by
  have hq : q ≠ la := fun z => by rw [z, hn] at hf; cases hf
  exact ⟨by rw [gup_n hq]; exact hf, if_neg hq⟩
end EDW

set_option maxHeartbeats 4000000 in
theorem m_X0_tried_1 {l : Launch} {D : va_G} {X : Nat → Nat} {b0 : Nat} {tg : Nat → Nat} {e nid pl sv pd : Nat} {h : Int → Nat} {A : Int → Nat → Nat} {S P L V Pd : Int → Int} {kn ln N : Int} {G : gM} (hC : edC D X tg e nid pl sv pd h A S P kn L V Pd ln G) (hW : rowW S N) (hn : nid < 889) {k : Nat} (hk7 : (k : Int) < S 7) {la : Nat} (hla : G la = some (lm1 (X 7) e (k : Int))) (htl : tg la / 100 = 993) : gMetW l D X b0 yX0_tried cX0_tried 5 (some FieldType.int) hhT (rmE 15 79 2660) [.ref e, .ref la] G (pI fun r G' => tiR S (k : Int) r ∧ ∃ tg' : Nat → Nat, frE tg tg' G G' ∧ edR D X tg' e nid S P kn L V Pd ln G') := by
  refine gm_startW (hh := hhT) (own := "EnergyDiscs") (lv := [some (.ref e), some (.ref la), none, none, none]) (by decide +kernel) rfl (Nat.le_of_ble_eq_true rfl) rfl (fun p_ e_ s_ m_ args_ below_ meth_ c_ hc hnm => ?_)
  obtain ⟨hlt, W, hH⟩ := ed_H hC
  obtain ⟨mcm, arm, hmcm, hMc, hMa, -⟩ := alR_P hH.2.2.2.2.1
  obtain ⟨mcl, arl, hmcl, hLc, hLa, -⟩ := alR_P hH.2.2.2.2.2.1
  have hb := hH.1
  refine gw_aload_n (q := 1) hc dX0_tried_0 rfl rfl xg_0 ?_
  refine gw_get (q := 4) hc dX0_tried_1 rfl cE_ED 0 (by decide) q198 (fun _ h => h) hC.1.1 rfl ?_
  refine gw_astore_n (q := 5) hc dX0_tried_4 rfl rfl xs_2 (by decide) (n2p xg_1 rfl) ?_
  refine gw_aload_n (q := 6) hc dX0_tried_5 rfl rfl xg_0 ?_
  refine gw_aload_n (q := 7) hc dX0_tried_6 rfl rfl xg_2 ?_
  refine gw_callV (q := 10) (bc' := 0) (bs' := 0) (As := []) hc dX0_tried_7 rfl q263 mw_X1_copy (rc_o hc cE_HO hH.2.2.1) rfl rfl (m_X1_copy hH hW.1.1 hW.1.2.1 hW.2.2.1 (rw_b hW) (by omega) (by omega) (nid := nid) (by omega)) ⟨Nat.le_of_ble_eq_true rfl, Nat.le_of_ble_eq_true rfl⟩ (Nat.le_of_ble_eq_true rfl) (Nat.le_of_ble_eq_true rfl) (Nat.le_of_ble_eq_true rfl) (goA fun r7 G7 h7 => ?_)
  obtain ⟨tgB, B, WB, er7, htB, hHB⟩ := h7
  rw [er7]
  have hCB := ed_oth hC htB (by omega) (by omega)
  have hlaB := htB.2.1 _ _ hla (by omega) (by omega)
  have htlB := htB.1 la (nn_s hla) (by omega)
  refine gw_put (q := 13) hc dX0_tried_10 rfl cE_ED 0 (by decide) q198 (fun _ h => h) rfl hCB.1.1 ⟨rfl, rfl⟩ rfl (Nat.le_of_ble_eq_true rfl) ?_
  obtain ⟨ht5, hC5⟩ := ed_res hCB hHB (by omega)
  have hme5 := hC5.1.1
  rw [fu_s] at hme5
  have hla5 := ht5.2.1 _ _ hlaB (by rw [htlB]; omega) (by rw [htlB]; omega)
  refine gw_aload_n (q := 14) hc dX0_tried_13 rfl rfl xg_1 ?_
  refine gw_ask1 (q := 19) (bc' := 0) (bs' := 0) hc rfl dX0_tried_14 rfl rfl hla5 (rc_o hc cE_ED hme5) q953 (m_X0_lambda_turnsIn_0 (nid := nid + 1) hC5 hW (by omega) hk7) ⟨Nat.le_of_ble_eq_true rfl, Nat.le_of_ble_eq_true rfl⟩ (Nat.le_of_ble_eq_true rfl) (Nat.le_of_ble_eq_true rfl) (Nat.le_of_ble_eq_true rfl) (goI fun r14 G14 h14 => ?_)
  obtain ⟨hr14, hfr14⟩ := h14
  rw [fu_s] at hfr14
  have hme14 := (hfr14 e (by rw [hCB.1.2.1]; omega)).trans hme5
  refine gw_istore_n (q := 20) hc dX0_tried_19 rfl rfl xs_3 (by decide) (n2p xg_2 rfl) ?_
  refine gw_aload_n (q := 21) hc dX0_tried_20 rfl rfl xg_0 ?_
  refine gw_aload_n (q := 22) hc dX0_tried_21 rfl rfl xg_2 ?_
  refine gw_put (q := 25) hc dX0_tried_22 rfl cE_ED 0 (by decide) q198 (fun _ h => h) rfl hme14 ⟨rfl, rfl⟩ rfl (Nat.le_of_ble_eq_true rfl) ?_
  have htw : tgW tgB tgB nid G7 (gup G14 e (edO (A (-1) 0) pl sv pd)) := ⟨fun _ _ _ => rfl, fun q f hf h1 h2 => by
      by_cases z : q = e
      · rw [z, gup_s]; rw [z] at hf; exact hCB.1.1.symm.trans hf
      · rw [gup_n z, hfr14 q h1, gup_n z]; exact hf⟩
  have hC22 := ed_othW hCB htw (by omega) (by omega)
  refine gw_iload_n (q := 26) hc dX0_tried_25 rfl rfl xg_3 ?_
  exact gw_iret hc dX0_tried_26 ⟨_, rfl, ⟨hr14, tgB, frE_tr (frE_of htB (by omega)) (frE_w htw (Or.inl (by omega))), pl, sv, pd, _, _, hC22⟩⟩

set_option maxHeartbeats 4000000 in
theorem m_X0_tried_2 {l : Launch} {D : va_G} {X : Nat → Nat} {b0 : Nat} {tg : Nat → Nat} {e nid pl sv pd : Nat} {h : Int → Nat} {A : Int → Nat → Nat} {S P L V Pd : Int → Int} {kn ln N : Int} {G : gM} (hC : edC D X tg e nid pl sv pd h A S P kn L V Pd ln G) (hW : rowW S N) (hn : nid < 889) {k : Nat} (hk7 : (k : Int) < S 7) {la : Nat} {t w : Int} (ht : 1 ≤ t ∧ t ≤ 1440) (hw : w = 0 ∨ w = 1) (hla : G la = some (lm2 (X 8) e (k : Int) t w)) (htl : tg la / 100 = 993) : gMetW l D X b0 yX0_tried cX0_tried 5 (some FieldType.int) hhT (rmE 16 79 2660) [.ref e, .ref la] G (pI fun r G' => r = (if w = 1 then paF S t.toNat (11 + 13 * (k : Int) + 4) - S (11 + 13 * (k : Int) + 4) else paF S t.toNat (11 + 13 * (k : Int) + 3) - S (11 + 13 * (k : Int) + 3)) ∧ ∃ tg' : Nat → Nat, frE tg tg' G G' ∧ edR D X tg' e nid S P kn L V Pd ln G') := by
  refine gm_startW (hh := hhT) (own := "EnergyDiscs") (lv := [some (.ref e), some (.ref la), none, none, none]) (by decide +kernel) rfl (Nat.le_of_ble_eq_true rfl) rfl (fun p_ e_ s_ m_ args_ below_ meth_ c_ hc hnm => ?_)
  obtain ⟨hlt, W, hH⟩ := ed_H hC
  obtain ⟨mcm, arm, hmcm, hMc, hMa, -⟩ := alR_P hH.2.2.2.2.1
  obtain ⟨mcl, arl, hmcl, hLc, hLa, -⟩ := alR_P hH.2.2.2.2.2.1
  have hb := hH.1
  refine gw_aload_n (q := 1) hc dX0_tried_0 rfl rfl xg_0 ?_
  refine gw_get (q := 4) hc dX0_tried_1 rfl cE_ED 0 (by decide) q198 (fun _ h => h) hC.1.1 rfl ?_
  refine gw_astore_n (q := 5) hc dX0_tried_4 rfl rfl xs_2 (by decide) (n2p xg_1 rfl) ?_
  refine gw_aload_n (q := 6) hc dX0_tried_5 rfl rfl xg_0 ?_
  refine gw_aload_n (q := 7) hc dX0_tried_6 rfl rfl xg_2 ?_
  refine gw_callV (q := 10) (bc' := 0) (bs' := 0) (As := []) hc dX0_tried_7 rfl q263 mw_X1_copy (rc_o hc cE_HO hH.2.2.1) rfl rfl (m_X1_copy hH hW.1.1 hW.1.2.1 hW.2.2.1 (rw_b hW) (by omega) (by omega) (nid := nid) (by omega)) ⟨Nat.le_of_ble_eq_true rfl, Nat.le_of_ble_eq_true rfl⟩ (Nat.le_of_ble_eq_true rfl) (Nat.le_of_ble_eq_true rfl) (Nat.le_of_ble_eq_true rfl) (goA fun r7 G7 h7 => ?_)
  obtain ⟨tgB, B, WB, er7, htB, hHB⟩ := h7
  rw [er7]
  have hCB := ed_oth hC htB (by omega) (by omega)
  have hlaB := htB.2.1 _ _ hla (by omega) (by omega)
  have htlB := htB.1 la (nn_s hla) (by omega)
  refine gw_put (q := 13) hc dX0_tried_10 rfl cE_ED 0 (by decide) q198 (fun _ h => h) rfl hCB.1.1 ⟨rfl, rfl⟩ rfl (Nat.le_of_ble_eq_true rfl) ?_
  obtain ⟨ht5, hC5⟩ := ed_res hCB hHB (by omega)
  have hme5 := hC5.1.1
  rw [fu_s] at hme5
  have hla5 := ht5.2.1 _ _ hlaB (by rw [htlB]; omega) (by rw [htlB]; omega)
  refine gw_aload_n (q := 14) hc dX0_tried_13 rfl rfl xg_1 ?_
  refine gw_ask2 (q := 19) (bc' := 0) (bs' := 0) hc rfl dX0_tried_14 rfl rfl hla5 (rc_o hc cE_ED hme5) q973 (m_X0_lambda_wouldTurn_1 (nid := nid + 1) hC5 hW (by omega) hk7 ht hw) ⟨Nat.le_of_ble_eq_true rfl, Nat.le_of_ble_eq_true rfl⟩ (Nat.le_of_ble_eq_true rfl) (Nat.le_of_ble_eq_true rfl) (Nat.le_of_ble_eq_true rfl) (goI fun r14 G14 h14 => ?_)
  obtain ⟨hr14, hfr14⟩ := h14
  rw [fu_s] at hfr14
  have hme14 := (hfr14 e (by rw [hCB.1.2.1]; omega)).trans hme5
  refine gw_istore_n (q := 20) hc dX0_tried_19 rfl rfl xs_3 (by decide) (n2p xg_2 rfl) ?_
  refine gw_aload_n (q := 21) hc dX0_tried_20 rfl rfl xg_0 ?_
  refine gw_aload_n (q := 22) hc dX0_tried_21 rfl rfl xg_2 ?_
  refine gw_put (q := 25) hc dX0_tried_22 rfl cE_ED 0 (by decide) q198 (fun _ h => h) rfl hme14 ⟨rfl, rfl⟩ rfl (Nat.le_of_ble_eq_true rfl) ?_
  have htw : tgW tgB tgB nid G7 (gup G14 e (edO (A (-1) 0) pl sv pd)) := ⟨fun _ _ _ => rfl, fun q f hf h1 h2 => by
      by_cases z : q = e
      · rw [z, gup_s]; rw [z] at hf; exact hCB.1.1.symm.trans hf
      · rw [gup_n z, hfr14 q h1, gup_n z]; exact hf⟩
  have hC22 := ed_othW hCB htw (by omega) (by omega)
  refine gw_iload_n (q := 26) hc dX0_tried_25 rfl rfl xg_3 ?_
  exact gw_iret hc dX0_tried_26 ⟨_, rfl, ⟨hr14, tgB, frE_tr (frE_of htB (by omega)) (frE_w htw (Or.inl (by omega))), pl, sv, pd, _, _, hC22⟩⟩

set_option maxHeartbeats 4000000 in
theorem m_X0_turnsIn {l : Launch} {D : va_G} {X : Nat → Nat} {b0 : Nat} {tg : Nat → Nat} {e nid pl sv pd : Nat} {h : Int → Nat} {A : Int → Nat → Nat} {S P L V Pd : Int → Int} {kn ln N : Int} {G : gM} (hC : edC D X tg e nid pl sv pd h A S P kn L V Pd ln G) (hW : rowW S N) (hn : nid < 889) {m : Int} (hm : rI m) : gMet l D X b0 yX0_turnsIn cX0_turnsIn 2 (some FieldType.int) (rmL 16 80 2662) [.ref e, .int (iI m)] G (pI fun r G' => (if 0 ≤ m ∧ m < S 7 then tiR S m r else r = -1) ∧ ∃ tg' : Nat → Nat, frE tg tg' G G' ∧ edR D X tg' e nid S P kn L V Pd ln G') := by
  refine gm_startN (own := "EnergyDiscs") (lv := [some (.ref e), some (.int (iI m))]) (by decide +kernel) rfl (Nat.le_of_ble_eq_true rfl) rfl (fun p_ e_ s_ m_ args_ below_ meth_ c_ hc hnm hnN => ?_)
  obtain ⟨hlt, W, hH⟩ := ed_H hC
  obtain ⟨mcm, arm, hmcm, hMc, hMa, -⟩ := alR_P hH.2.2.2.2.1
  obtain ⟨mcl, arl, hmcl, hLc, hLa, -⟩ := alR_P hH.2.2.2.2.2.1
  have hb := hH.1
  refine gw_aload_n (q := 1) hc dX0_turnsIn_0 rfl rfl xg_0 ?_
  refine gw_iload_n (q := 2) hc dX0_turnsIn_1 rfl rfl xg_1 ?_
  refine gw_callV (q := 5) (bc' := 80) (bs' := 2662) (As := [_]) hc dX0_turnsIn_2 rfl q548 mw_X0_isMeter (rc_o hc cE_ED hC.1.1) rfl rfl (m_X0_isMeter hC hm) ⟨Nat.le_of_ble_eq_true rfl, Nat.le_of_ble_eq_true rfl⟩ (Nat.le_of_ble_eq_true rfl) (Nat.le_of_ble_eq_true rfl) (Nat.le_of_ble_eq_true rfl) (goI fun r2 G2 h2 => ?_)
  obtain ⟨b2, hgg⟩ := h2
  rw [hgg]
  refine gw_if_eq  (q := 8) (t := 22) hc dX0_turnsIn_5 rfl (by decide) (by omega) (fun c5 => ?_) (fun c5 => ?_)
  · skip
    refine gw_iconst (q := 23) hc dX0_turnsIn_22 rfl ?_
    exact gw_iret hc dX0_turnsIn_23 ⟨_, rfl, ⟨by rw [if_neg (by omega)], tg, frE_rf, pl, sv, pd, h, A, hC⟩⟩
  · obtain ⟨k, rfl⟩ : ∃ k : Nat, m = k := ⟨m.toNat, by omega⟩
    have hk7 : (k : Int) < S 7 := by omega
    refine gw_aload_n (q := 9) hc dX0_turnsIn_8 rfl rfl xg_0 ?_
    refine gw_aload_n (q := 10) hc dX0_turnsIn_9 rfl rfl xg_0 ?_
    refine gw_iload_n (q := 11) hc dX0_turnsIn_10 rfl rfl xg_1 ?_
    refine gw_lam1 (q := 16) (ea := e) (k := (k : Int)) (bc' := 79) (bs' := 2660) hc hnN dX0_turnsIn_11 rfl rfl rfl (Nat.le_of_ble_eq_true rfl) (Nat.le_of_ble_eq_true rfl) rfl rfl (fun la hnone => ?_)
    have htx := tgR_new (tg := tg) (hid := 993) (t := 99300) (e := lm1 (X 7) e (k : Int)) hnone (Or.inl (by omega))
    obtain ⟨tg1, etg1⟩ : ∃ tg1 : Nat → Nat, tg1 = fun q => if q = la then 99300 else tg q := ⟨_, rfl⟩
    rw [← etg1] at htx
    have hC1 := ed_oth hC htx (by omega) (by omega)
    have hx1 : tg1 la = 99300 := by rw [etg1]; exact if_pos rfl
    refine gw_callVW (q := 19) (bc' := 0) (bs' := 0) (As := [_]) (hh := hhT) hc dX0_turnsIn_16 rfl q959 mw_X0_tried (rc_o hc cE_ED hC1.1.1) rfl rfl (m_X0_tried_1 hC1 hW (by omega) hk7 gup_s (by omega)) ⟨Nat.le_of_ble_eq_true rfl, Nat.le_of_ble_eq_true rfl⟩ (Nat.le_of_ble_eq_true rfl) (Nat.le_of_ble_eq_true rfl) (Nat.le_of_ble_eq_true rfl) (goI fun r16 G16 h16 => ?_)
    obtain ⟨hr16, tg2, hf2, hR2⟩ := h16
    refine gw_goto (q := 23) hc dX0_turnsIn_19 (by decide) ?_
    exact gw_iret hc dX0_turnsIn_23 ⟨_, rfl, ⟨by rw [if_pos (by omega)]; exact hr16, tg2, frE_tr (by rw [etg1]; exact frE_nw hnone) hf2, hR2⟩⟩

set_option maxHeartbeats 4000000 in
theorem m_X0_wouldTurn {l : Launch} {D : va_G} {X : Nat → Nat} {b0 : Nat} {tg : Nat → Nat} {e nid pl sv pd : Nat} {h : Int → Nat} {A : Int → Nat → Nat} {S P L V Pd : Int → Int} {kn ln N : Int} {G : gM} (hC : edC D X tg e nid pl sv pd h A S P kn L V Pd ln G) (hW : rowW S N) (hn : nid < 889) {m t w : Int} (hm : rI m) (ht : rI t) (hw : rI w) : gMet l D X b0 yX0_wouldTurn cX0_wouldTurn 5 (some FieldType.int) (rmL 17 80 2664) [.ref e, .int (iI m), .int (iI t), .int (iI w)] G (pI fun r G' => r = wtF S m t w ∧ ∃ tg' : Nat → Nat, frE tg tg' G G' ∧ edR D X tg' e nid S P kn L V Pd ln G') := by
  refine gm_startN (own := "EnergyDiscs") (lv := [some (.ref e), some (.int (iI m)), some (.int (iI t)), some (.int (iI w)), none]) (by decide +kernel) rfl (Nat.le_of_ble_eq_true rfl) rfl (fun p_ e_ s_ m_ args_ below_ meth_ c_ hc hnm hnN => ?_)
  obtain ⟨hlt, W, hH⟩ := ed_H hC
  obtain ⟨mcm, arm, hmcm, hMc, hMa, -⟩ := alR_P hH.2.2.2.2.1
  obtain ⟨mcl, arl, hmcl, hLc, hLa, -⟩ := alR_P hH.2.2.2.2.2.1
  have hb := hH.1
  refine gw_aload_n (q := 1) hc dX0_wouldTurn_0 rfl rfl xg_0 ?_
  refine gw_iload_n (q := 2) hc dX0_wouldTurn_1 rfl rfl xg_1 ?_
  refine gw_callV (q := 5) (bc' := 80) (bs' := 2664) (As := [_]) hc dX0_wouldTurn_2 rfl q548 mw_X0_isMeter (rc_o hc cE_ED hC.1.1) rfl rfl (m_X0_isMeter hC hm) ⟨Nat.le_of_ble_eq_true rfl, Nat.le_of_ble_eq_true rfl⟩ (Nat.le_of_ble_eq_true rfl) (Nat.le_of_ble_eq_true rfl) (Nat.le_of_ble_eq_true rfl) (goI fun r2 G2 h2 => ?_)
  obtain ⟨b2, hgg⟩ := h2
  rw [hgg]
  refine gw_if_ne  (q := 8) (t := 10) hc dX0_wouldTurn_5 rfl (by decide) (by omega) (fun c5 => ?_) (fun c5 => ?_)
  · obtain ⟨k, rfl⟩ : ∃ k : Nat, m = k := ⟨m.toNat, by omega⟩
    have hk7 : (k : Int) < S 7 := by omega
    refine gw_iload_n (q := 11) hc dX0_wouldTurn_10 rfl rfl xg_2 ?_
    refine gw_iconst (q := 12) hc dX0_wouldTurn_11 rfl ?_
    refine gw_sipush (q := 15) hc dX0_wouldTurn_12 rfl (by decide) ?_
    refine gw_callS (q := 18) (bc' := 80) (bs' := 2664) (As := [_, _, _]) hc dX0_wouldTurn_15 rfl q216 mw_X0_isIn rfl rfl (m_X0_isIn ht (by omega) (by omega)) ⟨Nat.le_of_ble_eq_true rfl, Nat.le_of_ble_eq_true rfl⟩ (Nat.le_of_ble_eq_true rfl) (Nat.le_of_ble_eq_true rfl) (Nat.le_of_ble_eq_true rfl) (goI fun r15 G15 h15 => ?_)
    obtain ⟨b15, hgg⟩ := h15
    rw [hgg]
    refine gw_if_eq  (q := 21) (t := 34) hc dX0_wouldTurn_18 rfl (by decide) (by omega) (fun c18 => ?_) (fun c18 => ?_)
    · skip
      refine gw_iconst (q := 35) hc dX0_wouldTurn_34 rfl ?_
      refine gw_istore (q := 37) hc dX0_wouldTurn_35 rfl xs_4 (by decide) (n2p xg_3 rfl) ?_
      refine gw_iload (q := 39) hc dX0_wouldTurn_37 rfl xg_4 ?_
      refine gw_if_eq  (q := 42) (t := 58) hc dX0_wouldTurn_39 rfl (by decide) (by omega) (fun c39 => ?_) (fun c39 => ?_)
      · skip
        refine gw_bipush (q := 60) hc dX0_wouldTurn_58 rfl (by decide) ?_
        exact gw_iret hc dX0_wouldTurn_60 ⟨_, rfl, ⟨by unfold wtF; rw [if_neg (by omega), if_pos (by omega)], tg, frE_rf, pl, sv, pd, h, A, hC⟩⟩
      · exfalso; omega
    · skip
      refine gw_iload_n (q := 22) hc dX0_wouldTurn_21 rfl rfl xg_3 ?_
      refine gw_iconst (q := 23) hc dX0_wouldTurn_22 rfl ?_
      refine gw_iconst (q := 24) hc dX0_wouldTurn_23 rfl ?_
      refine gw_callS (q := 27) (bc' := 80) (bs' := 2664) (As := [_, _, _]) hc dX0_wouldTurn_24 rfl q216 mw_X0_isIn rfl rfl (m_X0_isIn hw (by omega) (by omega)) ⟨Nat.le_of_ble_eq_true rfl, Nat.le_of_ble_eq_true rfl⟩ (Nat.le_of_ble_eq_true rfl) (Nat.le_of_ble_eq_true rfl) (Nat.le_of_ble_eq_true rfl) (goI fun r24 G24 h24 => ?_)
      obtain ⟨b24, hgg⟩ := h24
      rw [hgg]
      refine gw_if_eq  (q := 30) (t := 34) hc dX0_wouldTurn_27 rfl (by decide) (by omega) (fun c27 => ?_) (fun c27 => ?_)
      · skip
        refine gw_iconst (q := 35) hc dX0_wouldTurn_34 rfl ?_
        refine gw_istore (q := 37) hc dX0_wouldTurn_35 rfl xs_4 (by decide) (n2p xg_3 rfl) ?_
        refine gw_iload (q := 39) hc dX0_wouldTurn_37 rfl xg_4 ?_
        refine gw_if_eq  (q := 42) (t := 58) hc dX0_wouldTurn_39 rfl (by decide) (by omega) (fun c39 => ?_) (fun c39 => ?_)
        · skip
          refine gw_bipush (q := 60) hc dX0_wouldTurn_58 rfl (by decide) ?_
          exact gw_iret hc dX0_wouldTurn_60 ⟨_, rfl, ⟨by unfold wtF; rw [if_neg (by omega), if_pos (by omega)], tg, frE_rf, pl, sv, pd, h, A, hC⟩⟩
        · exfalso; omega
      · skip
        refine gw_iconst (q := 31) hc dX0_wouldTurn_30 rfl ?_
        refine gw_goto (q := 35) hc dX0_wouldTurn_31 (by decide) ?_
        refine gw_istore (q := 37) hc dX0_wouldTurn_35 rfl xs_4 (by decide) (n2p xg_3 rfl) ?_
        refine gw_iload (q := 39) hc dX0_wouldTurn_37 rfl xg_4 ?_
        refine gw_if_eq  (q := 42) (t := 58) hc dX0_wouldTurn_39 rfl (by decide) (by omega) (fun c39 => ?_) (fun c39 => ?_)
        · exfalso; omega
        · skip
          refine gw_aload_n (q := 43) hc dX0_wouldTurn_42 rfl rfl xg_0 ?_
          refine gw_aload_n (q := 44) hc dX0_wouldTurn_43 rfl rfl xg_0 ?_
          refine gw_iload_n (q := 45) hc dX0_wouldTurn_44 rfl rfl xg_1 ?_
          refine gw_iload_n (q := 46) hc dX0_wouldTurn_45 rfl rfl xg_2 ?_
          refine gw_iload_n (q := 47) hc dX0_wouldTurn_46 rfl rfl xg_3 ?_
          refine gw_lam2 (q := 52) (ea := e) (k := (k : Int)) (t := t) (w := w) (bc' := 79) (bs' := 2660) hc hnN dX0_wouldTurn_47 rfl rfl rfl (Nat.le_of_ble_eq_true rfl) (Nat.le_of_ble_eq_true rfl) rfl rfl (fun la hnone => ?_)
          have htx := tgR_new (tg := tg) (hid := 993) (t := 99300) (e := lm2 (X 8) e (k : Int) t w) hnone (Or.inl (by omega))
          obtain ⟨tg1, etg1⟩ : ∃ tg1 : Nat → Nat, tg1 = fun q => if q = la then 99300 else tg q := ⟨_, rfl⟩
          rw [← etg1] at htx
          have hC1 := ed_oth hC htx (by omega) (by omega)
          have hx1 : tg1 la = 99300 := by rw [etg1]; exact if_pos rfl
          refine gw_callVW (q := 55) (bc' := 0) (bs' := 0) (As := [_]) (hh := hhT) hc dX0_wouldTurn_52 rfl q959 mw_X0_tried (rc_o hc cE_ED hC1.1.1) rfl rfl (m_X0_tried_2 hC1 hW (by omega) hk7 (by omega) (by omega) gup_s (by omega)) ⟨Nat.le_of_ble_eq_true rfl, Nat.le_of_ble_eq_true rfl⟩ (Nat.le_of_ble_eq_true rfl) (Nat.le_of_ble_eq_true rfl) (Nat.le_of_ble_eq_true rfl) (goI fun r16 G16 h16 => ?_)
          obtain ⟨hr16, tg2, hf2, hR2⟩ := h16
          refine gw_goto (q := 60) hc dX0_wouldTurn_55 (by decide) ?_
          exact gw_iret hc dX0_wouldTurn_60 ⟨_, rfl, ⟨by rw [hr16]; unfold wtF; rw [if_neg (show ¬ ¬ (0 ≤ (k : Int) ∧ (k : Int) < S 7) by omega), if_neg (show ¬ ¬ ((1 ≤ t ∧ t ≤ 1440) ∧ (0 ≤ w ∧ w ≤ 1)) by omega)]; simp only [Int.zero_add], tg2, frE_tr (by rw [etg1]; exact frE_nw hnone) hf2, hR2⟩⟩
  · skip
    refine gw_iconst (q := 9) hc dX0_wouldTurn_8 rfl ?_
    exact gw_iret hc dX0_wouldTurn_9 ⟨_, rfl, ⟨by unfold wtF; rw [if_pos (by omega)], tg, frE_rf, pl, sv, pd, h, A, hC⟩⟩

