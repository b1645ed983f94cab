/-! ===== THE CLASS: what it is asked, what may be done ===== -/
set_option maxRecDepth 100000
/-- is it recorded: the past and the next number then -/
def chR (ch : Int) (S P : Int → Int) (kn : Int) (nid : Nat) (P2 : Int → Int) (kn2 : Int) (nid2 : Nat) : Prop := (ch = 1 ∧ P2 = rmF S P kn ∧ kn2 = rmK kn ∧ nid2 = nid + 1) ∨ (ch = 0 ∧ P2 = P ∧ kn2 = kn ∧ nid2 = nid)
/-- a change: the error, or the new state -/
abbrev edQ (D : va_G) (X tg : Nat → Nat) (e nid2 : Nat) (S' P2 : Int → Int) (kn2 : Int) (L V Pd : Int → Int) (ln : Int) (G : gM) (why r' : Int) : Option Value → gM → Prop :=
  pI fun r G' => (why < 0 ∧ r = why ∧ G' = G) ∨ (why = 0 ∧ r = r' ∧ ∃ tg' : Nat → Nat, frE tg tg' G G' ∧ edR D X tg' e nid2 S' P2 kn2 L V Pd ln G')
theorem alP_arr {D : va_G} {X : Nat → Nat} {G : gM} {ar : Nat} {n : Int} {el : Int → Nat} (h : alP D X G ar n el) (h1 : 0 < n) : ∃ (cap : Nat) (f : Int → Option Nat), G ar = some (qA D cap f) ∧ elF f cap n el ∧ n ≤ cap ∧ cap ≤ 1000 := by
  obtain ⟨h2, ⟨-, h3⟩ | ⟨cap, f, hA, hf, hc⟩⟩ := h
  · omega
  · exact ⟨cap, f, hA, hf, by omega, by omega⟩
theorem rw_b {S : Int → Int} {N : Int} (h : rowW S N) (k : Nat) (hk : (k : Int) < S 7) : S (11 + 13 * (k : Int) + 7) = 0 ∨ S (11 + 13 * (k : Int) + 7) = 1 := by
  have := (h.1.2.2.2.2.2 k (by omega) hk).2.2.2.2.1
  rwa [show (0 : Int) + 11 + 13 * (k : Int) + 7 = 11 + 13 * (k : Int) + 7 by omega] at this

theorem mw_X0_isIn : mS yX0_isIn cX0_isIn 3 (some FieldType.boolean) 3 := ⟨⟨by decide +kernel, by decide +kernel, by decide +kernel⟩, q217, q73, q218⟩
set_option maxHeartbeats 4000000 in
theorem m_X0_isMeter {l : Launch} {D : va_G} {X : Nat → Nat} {b0 : Nat} {tg : Nat → Nat} {e nid pl sv pd : Nat} {h : Int → Nat} {A : Int → Nat → Nat} {S P L V Pd : Int → Int} {kn ln : Int} {G : gM} (hC : edC D X tg e nid pl sv pd h A S P kn L V Pd ln G) {k : Int} (hk : rI k) : gMet l D X b0 yX0_isMeter cX0_isMeter 2 (some FieldType.boolean) (rmE 1 0 0) [.ref e, .int (iI k)] G (eB (0 ≤ k ∧ k < S 7) G) := by
  refine gm_start (own := "EnergyDiscs") (lv := [some (.ref e), some (.int (iI k))]) (by decide +kernel) rfl (Nat.le_of_ble_eq_true rfl) rfl (fun p_ e_ s_ m_ args_ below_ meth_ c_ hc hnm => ?_)
  obtain ⟨hlt, W, hH⟩ := ed_H hC
  obtain ⟨mcm, arm, hmcm, hMc, hMa, -⟩ := alR_P hH.2.2.2.2.1
  obtain ⟨mcl, arl, hmcl, hLc, hLa, -⟩ := alR_P hH.2.2.2.2.2.1
  have hb := hH.1
  refine gw_iload_n (q := 1) hc dX0_isMeter_0 rfl rfl xg_1 ?_
  refine gw_iconst (q := 2) hc dX0_isMeter_1 rfl ?_
  refine gw_aload_n (q := 3) hc dX0_isMeter_2 rfl rfl xg_0 ?_
  refine gw_get (q := 6) hc dX0_isMeter_3 rfl cE_ED 0 (by decide) q198 (fun _ h => h) hC.1.1 rfl ?_
  refine gw_getN (q := 9) hc dX0_isMeter_6 rfl cE_HO 1 (by decide) q145 (fun _ h => h) hH.2.2.1 rfl ?_
  refine gw_callF (q := 14) (bc' := 0) (bs' := 0) (As := []) hc dX0_isMeter_9 rfl cE_AL q232 mf_J2_size_7 rfl rfl (m_J2_size hMc) (rc_o hc cE_AL hMc) ⟨Nat.le_of_ble_eq_true rfl, Nat.le_of_ble_eq_true rfl⟩ (Nat.le_of_ble_eq_true rfl) (Nat.le_of_ble_eq_true rfl) (Nat.le_of_ble_eq_true rfl) (goI fun r9 G9 h9 => ?_)
  obtain ⟨er9, hgg⟩ := h9
  rw [hgg, er9]
  refine gw_iconst (q := 15) hc dX0_isMeter_14 rfl ?_
  refine gw_isub (q := 16) hc dX0_isMeter_15 rfl ?_
  refine gw_callS (q := 19) (bc' := 0) (bs' := 0) (As := [_, _, _]) hc dX0_isMeter_16 rfl q216 mw_X0_isIn rfl rfl (m_X0_isIn hk (by omega) (by omega)) ⟨Nat.le_of_ble_eq_true rfl, Nat.le_of_ble_eq_true rfl⟩ (Nat.le_of_ble_eq_true rfl) (Nat.le_of_ble_eq_true rfl) (Nat.le_of_ble_eq_true rfl) (goI fun r16 G16 h16 => ?_)
  obtain ⟨b16, hgg⟩ := h16
  rw [hgg]
  exact gw_zret hc (by first | exact Or.inl rfl | exact Or.inr rfl | omega) dX0_isMeter_19 ⟨_, rfl, ⟨by omega, rfl⟩⟩

set_option maxHeartbeats 4000000 in
theorem m_X0_isLoad {l : Launch} {D : va_G} {X : Nat → Nat} {b0 : Nat} {tg : Nat → Nat} {e nid pl sv pd : Nat} {h : Int → Nat} {A : Int → Nat → Nat} {S P L V Pd : Int → Int} {kn ln : Int} {G : gM} (hC : edC D X tg e nid pl sv pd h A S P kn L V Pd ln G) {k : Int} (hk : rI k) : gMet l D X b0 yX0_isLoad cX0_isLoad 2 (some FieldType.boolean) (rmE 1 0 0) [.ref e, .int (iI k)] G (eB (0 ≤ k ∧ k < S 8) G) := by
  refine gm_start (own := "EnergyDiscs") (lv := [some (.ref e), some (.int (iI k))]) (by decide +kernel) rfl (Nat.le_of_ble_eq_true rfl) rfl (fun p_ e_ s_ m_ args_ below_ meth_ c_ hc hnm => ?_)
  obtain ⟨hlt, W, hH⟩ := ed_H hC
  obtain ⟨mcm, arm, hmcm, hMc, hMa, -⟩ := alR_P hH.2.2.2.2.1
  obtain ⟨mcl, arl, hmcl, hLc, hLa, -⟩ := alR_P hH.2.2.2.2.2.1
  have hb := hH.1
  refine gw_iload_n (q := 1) hc dX0_isLoad_0 rfl rfl xg_1 ?_
  refine gw_iconst (q := 2) hc dX0_isLoad_1 rfl ?_
  refine gw_aload_n (q := 3) hc dX0_isLoad_2 rfl rfl xg_0 ?_
  refine gw_get (q := 6) hc dX0_isLoad_3 rfl cE_ED 0 (by decide) q198 (fun _ h => h) hC.1.1 rfl ?_
  refine gw_getN (q := 9) hc dX0_isLoad_6 rfl cE_HO 2 (by decide) q147 (fun _ h => h) hH.2.2.1 rfl ?_
  refine gw_callF (q := 14) (bc' := 0) (bs' := 0) (As := []) hc dX0_isLoad_9 rfl cE_AL q232 mf_J2_size_7 rfl rfl (m_J2_size hLc) (rc_o hc cE_AL hLc) ⟨Nat.le_of_ble_eq_true rfl, Nat.le_of_ble_eq_true rfl⟩ (Nat.le_of_ble_eq_true rfl) (Nat.le_of_ble_eq_true rfl) (Nat.le_of_ble_eq_true rfl) (goI fun r9 G9 h9 => ?_)
  obtain ⟨er9, hgg⟩ := h9
  rw [hgg, er9]
  refine gw_iconst (q := 15) hc dX0_isLoad_14 rfl ?_
  refine gw_isub (q := 16) hc dX0_isLoad_15 rfl ?_
  refine gw_callS (q := 19) (bc' := 0) (bs' := 0) (As := [_, _, _]) hc dX0_isLoad_16 rfl q216 mw_X0_isIn rfl rfl (m_X0_isIn hk (by omega) (by omega)) ⟨Nat.le_of_ble_eq_true rfl, Nat.le_of_ble_eq_true rfl⟩ (Nat.le_of_ble_eq_true rfl) (Nat.le_of_ble_eq_true rfl) (Nat.le_of_ble_eq_true rfl) (goI fun r16 G16 h16 => ?_)
  obtain ⟨b16, hgg⟩ := h16
  rw [hgg]
  exact gw_zret hc (by first | exact Or.inl rfl | exact Or.inr rfl | omega) dX0_isLoad_19 ⟨_, rfl, ⟨by omega, rfl⟩⟩

set_option maxHeartbeats 4000000 in
theorem m_X0_meterAt {l : Launch} {D : va_G} {X : Nat → Nat} {b0 : Nat} {tg : Nat → Nat} {e nid pl sv pd : Nat} {h : Int → Nat} {A : Int → Nat → Nat} {S P L V Pd : Int → Int} {kn ln : Int} {G : gM} (hC : edC D X tg e nid pl sv pd h A S P kn L V Pd ln G) {m : Nat} (hm : (m : Int) < S 7) : gMet l D X b0 yX0_meterAt cX0_meterAt 2 (some (FieldType.object "EnergyDiscs$Meter")) (rmE 3 0 0) [.ref e, .int (iI (m : Int))] G (eA (A (-1) (10 + m)) G) := by
  refine gm_start (own := "EnergyDiscs") (lv := [some (.ref e), some (.int (iI (m : Int)))]) (by decide +kernel) rfl (Nat.le_of_ble_eq_true rfl) rfl (fun p_ e_ s_ m_ args_ below_ meth_ c_ hc hnm => ?_)
  obtain ⟨hlt, W, hH⟩ := ed_H hC
  obtain ⟨mcm, arm, hmcm, hMc, hMa, -⟩ := alR_P hH.2.2.2.2.1
  obtain ⟨mcl, arl, hmcl, hLc, hLa, -⟩ := alR_P hH.2.2.2.2.2.1
  have hb := hH.1
  obtain ⟨cap, f, hA1, hf1, hb1, hfi⟩ := alP_get hMa (i := (m : Int)) (by omega) (by omega)
  have hmt := (hH.2.2.2.2.2.2.1 m hm).1
  refine gw_aload_n (q := 1) hc dX0_meterAt_0 rfl rfl xg_0 ?_
  refine gw_get (q := 4) hc dX0_meterAt_1 rfl cE_ED 0 (by decide) q198 (fun _ h => h) hC.1.1 rfl ?_
  refine gw_getN (q := 7) hc dX0_meterAt_4 rfl cE_HO 1 (by decide) q145 (fun _ h => h) hH.2.2.1 rfl ?_
  refine gw_iload_n (q := 8) hc dX0_meterAt_7 rfl rfl xg_1 ?_
  refine gw_callF (q := 13) (bc' := 0) (bs' := 0) (As := [_]) hc dX0_meterAt_8 rfl cE_AL q586 mf_J2_get_7 rfl rfl (m_J2_get hMc hA1 (by omega) (by omega) hfi) (rc_o hc cE_AL hMc) ⟨Nat.le_of_ble_eq_true rfl, Nat.le_of_ble_eq_true rfl⟩ (Nat.le_of_ble_eq_true rfl) (Nat.le_of_ble_eq_true rfl) (Nat.le_of_ble_eq_true rfl) (goA fun r8 G8 h8 => ?_)
  obtain ⟨er8, hgg⟩ := h8
  have er8b : r8 = A (-1) (10 + m) := by rw [er8]; show A (-1) (10 + (m : Int).toNat) = _; rw [Int.toNat_natCast]
  subst er8b
  rw [hgg]
  refine gw_cast (q := 16) hc dX0_meterAt_13 rfl q603 (rc_o hc cE_ME hmt) ?_
  exact gw_aret hc rfl (by first | exact Or.inl ⟨_, rfl⟩ | exact Or.inr ⟨_, rfl⟩) dX0_meterAt_16 ⟨_, rfl, ⟨rfl, rfl⟩⟩

theorem rm6_P {S P : Int → Int} {kn : Int} (h : kn = 6) : ∀ i, 0 ≤ i → i < 138 * (kn - 1) → rmF S P kn i = P (138 + i) := fun i a b => by
  subst h; exact rmF_P6 (by omega)
theorem rm6_S {S P : Int → Int} {kn : Int} (h : kn = 6) : ∀ i, 0 ≤ i → i < 138 → rmF S P kn (138 * (kn - 1) + i) = S i := fun i a b => by
  subst h; exact rmF_S6 (by omega)
theorem mw_X1_copy : mV "EnergyDiscs$House" yX1_copy cX1_copy 5 (some (FieldType.object "EnergyDiscs$House")) 0 := ⟨⟨rfl, by decide +kernel, by decide +kernel, by decide +kernel⟩, q264, q265, q74, q266⟩
theorem mf_J2_remove_7 : mF "java/util/ArrayList" ⟨"java/util/List", "remove", "(I)Ljava/lang/Object;"⟩ yJ2_remove cJ2_remove 4 (some (FieldType.object "java/lang/Object")) 1 := ⟨⟨by decide +kernel, by decide +kernel, by decide +kernel⟩, q245, q247, q77, q249, q244, q243, q248, q246, q235, by decide +kernel⟩
set_option maxHeartbeats 4000000 in
theorem m_X0_record {l : Launch} {D : va_G} {X : Nat → Nat} {b0 : Nat} {tg : Nat → Nat} {e nid pl sv pd : Nat} {h : Int → Nat} {A : Int → Nat → Nat} {S P L V Pd : Int → Int} {kn ln N : Int} {G : gM} (hC : edC D X tg e nid pl sv pd h A S P kn L V Pd ln G) (hW : rowW S N) (hn : nid < 900) : gMet l D X b0 yX0_record cX0_record 1 none (rmE 10 80 2730) [.ref e] G (pV fun G' => ∃ tg' : Nat → Nat, frE tg tg' G G' ∧ ∃ (h2 : Int → Nat) (A2 : Int → Nat → Nat), edC D X tg' e (nid + 1) pl sv pd h2 A2 S (rmF S P kn) (rmK kn) L V Pd ln G') := by
  refine gm_start (own := "EnergyDiscs") (lv := [some (.ref e)]) (by decide +kernel) rfl (Nat.le_of_ble_eq_true rfl) rfl (fun p_ e_ s_ m_ args_ below_ meth_ c_ hc hnm => ?_)
  obtain ⟨hlt, W, hH⟩ := ed_H hC
  obtain ⟨mcm, arm, hmcm, hMc, hMa, -⟩ := alR_P hH.2.2.2.2.1
  obtain ⟨mcl, arl, hmcl, hLc, hLa, -⟩ := alR_P hH.2.2.2.2.2.1
  have hb := hH.1
  have hkn := hC.2.2.2.1
  obtain ⟨mcp, arp, hmcp, hPc, hPa, harp⟩ := alR_P hC.2.2.2.2.1
  refine gw_x0 hc (fun hX0 => ?_)
  have hob : obL G 1 kn (fun i => A i 0) := fun i a b => by
    obtain ⟨-, W9, h9⟩ := hC.2.1 i (Or.inr (Or.inl ⟨a, b⟩))
    exact ⟨_, h9.2.2.1⟩
  refine gw_aload_n (q := 1) hc dX0_record_0 rfl rfl xg_0 ?_
  refine gw_get (q := 4) hc dX0_record_1 rfl cE_ED 1 (by decide) q199 (fun _ h => h) hC.1.1 rfl ?_
  refine gw_callF (q := 9) (bc' := 80) (bs' := 2730) (As := []) hc dX0_record_4 rfl cE_AL q232 mf_J2_size_7 rfl rfl (m_J2_size hPc) (rc_o hc cE_AL hPc) ⟨Nat.le_of_ble_eq_true rfl, Nat.le_of_ble_eq_true rfl⟩ (Nat.le_of_ble_eq_true rfl) (Nat.le_of_ble_eq_true rfl) (Nat.le_of_ble_eq_true rfl) (goI fun r4 G4 h4 => ?_)
  obtain ⟨er4, hgg⟩ := h4
  rw [hgg, er4]
  refine gw_bipush (q := 11) hc dX0_record_9 rfl (by decide) ?_
  refine gw_icmp_ne  (q := 14) (t := 25) hc dX0_record_11 rfl (by decide) (by omega) (by omega) (fun c11 => ?_) (fun c11 => ?_)
  · obtain ⟨h1, A1, P1, k1, hC1, hk1, hk2, hk3⟩ : ∃ (h1 : Int → Nat) (A1 : Int → Nat → Nat) (P1 : Int → Int) (k1 : Int), edC D X tg e nid pl sv pd h1 A1 S P1 k1 L V Pd ln G ∧ (k1 < 6 ∧ k1 + 1 = rmK kn) ∧ (∀ i, 0 ≤ i → i < 138 * k1 → rmF S P kn i = P1 i) ∧ (∀ i, 0 ≤ i → i < 138 → rmF S P kn (138 * k1 + i) = S i) := ⟨h, A, P, kn, hC, by unfold rmK; rw [if_neg (by omega)]; omega, fun i a b => rmF_P (by omega) ⟨a, b⟩, fun i a b => rmF_S (by omega) ⟨a, b⟩⟩
    obtain ⟨hlt1, W1, hH1⟩ := ed_H hC1
    obtain ⟨mc1, ar1, hmc1, hP1c, hP1a, har1⟩ := alR_P hC1.2.2.2.2.1
    refine gw_aload_n (q := 26) hc dX0_record_25 rfl rfl xg_0 ?_
    refine gw_get (q := 29) hc dX0_record_26 rfl cE_ED 1 (by decide) q199 (fun _ h => h) hC1.1.1 rfl ?_
    refine gw_aload_n (q := 30) hc dX0_record_29 rfl rfl xg_0 ?_
    refine gw_get (q := 33) hc dX0_record_30 rfl cE_ED 0 (by decide) q198 (fun _ h => h) hC1.1.1 rfl ?_
    refine gw_callV (q := 36) (bc' := 1) (bs' := 70) (As := []) hc dX0_record_33 rfl q263 mw_X1_copy (rc_o hc cE_HO hH1.2.2.1) rfl rfl (m_X1_copy hH1 hW.1.1 hW.1.2.1 hW.2.2.1 (rw_b hW) (by omega) (by omega) (nid := nid) (by omega)) ⟨Nat.le_of_ble_eq_true rfl, Nat.le_of_ble_eq_true rfl⟩ (Nat.le_of_ble_eq_true rfl) (Nat.le_of_ble_eq_true rfl) (Nat.le_of_ble_eq_true rfl) (goA fun r33 G33 h33 => ?_)
    obtain ⟨tgB, B, WB, er33, htB, hHB⟩ := h33
    subst er33
    have hCB := ed_oth hC1 htB (by omega) (by omega)
    refine gw_x0 hc (fun hX5 => ?_)
    obtain ⟨mcq, arq, hmcq, hQc, hQa, harq⟩ := alR_P hCB.2.2.2.2.1
    have hobq : obL G33 1 k1 (fun i => A1 i 0) := fun i a b => by
        obtain ⟨-, W9, h9⟩ := hCB.2.1 i (Or.inr (Or.inl ⟨a, b⟩))
        exact ⟨_, h9.2.2.1⟩
    refine gw_callF (q := 41) (bc' := 0) (bs' := 6) (As := [_]) hc dX0_record_36 rfl cE_AL q526 mf_J2_add_7 rfl rfl (m_J2_add hHB.2.2.1 cE_HO q1550 hobq hQc hQa (by omega)) (rc_o hc cE_AL hQc) ⟨Nat.le_of_ble_eq_true rfl, Nat.le_of_ble_eq_true rfl⟩ (Nat.le_of_ble_eq_true rfl) (Nat.le_of_ble_eq_true rfl) (Nat.le_of_ble_eq_true rfl) (goI fun r36 G36 h36 => ?_)
    obtain ⟨-, had⟩ := h36
    obtain ⟨tg3, ht3, hC3⟩ := ed_add (P' := rmF S P kn) hCB (by omega) hHB hQc harq hX5 had (by omega) hk2 hk3
    refine gw_pop (q := 42) hc dX0_record_41 rfl rfl ?_
    exact gw_vret hc dX0_record_42 ⟨rfl, ⟨tg3, frE_tr (frE_of htB (by omega)) (frE_of ht3 (by omega)), _, _, by rw [← hk1.2]; exact hC3⟩⟩
  · obtain ⟨cap, f, hPA, hPf, hPb⟩ := alP_arr hPa (by omega)
    refine gw_aload_n (q := 15) hc dX0_record_14 rfl rfl xg_0 ?_
    refine gw_get (q := 18) hc dX0_record_15 rfl cE_ED 1 (by decide) q199 (fun _ h => h) hC.1.1 rfl ?_
    refine gw_iconst (q := 19) hc dX0_record_18 rfl ?_
    refine gw_callF (q := 24) (bc' := 80) (bs' := 2730) (As := [_]) hc dX0_record_19 rfl cE_AL q242 mf_J2_remove_7 rfl rfl (m_J2_remove cE_HO q1550 hob hPc hPA hPf hPb (by omega)) (rc_o hc cE_AL hPc) ⟨Nat.le_of_ble_eq_true rfl, Nat.le_of_ble_eq_true rfl⟩ (Nat.le_of_ble_eq_true rfl) (Nat.le_of_ble_eq_true rfl) (Nat.le_of_ble_eq_true rfl) (goA fun r19 G19 h19 => ?_)
    obtain ⟨-, f2, hf2, hG19⟩ := h19
    obtain ⟨ht9, hC9⟩ := ed_sh hC (by omega) (by omega) hPc (by rcases harp with h | h; (rw [h, hX0] at hPA; cases hPA); exact h) ⟨nn_s hPA, by omega, by omega, fun z => by rw [z, hPc] at hPA; cases hPA⟩ hf2 hG19
    obtain ⟨h1, A1, P1, k1, hC1, hk1, hk2, hk3⟩ : ∃ (h1 : Int → Nat) (A1 : Int → Nat → Nat) (P1 : Int → Int) (k1 : Int), edC D X tg e nid pl sv pd h1 A1 S P1 k1 L V Pd ln G19 ∧ (k1 < 6 ∧ k1 + 1 = rmK kn) ∧ (∀ i, 0 ≤ i → i < 138 * k1 → rmF S P kn i = P1 i) ∧ (∀ i, 0 ≤ i → i < 138 → rmF S P kn (138 * k1 + i) = S i) := ⟨_, _, _, _, hC9, by unfold rmK; rw [if_pos (by omega)]; omega, rm6_P (by omega), rm6_S (by omega)⟩
    obtain ⟨hlt1, W1, hH1⟩ := ed_H hC1
    obtain ⟨mc1, ar1, hmc1, hP1c, hP1a, har1⟩ := alR_P hC1.2.2.2.2.1
    refine gw_pop (q := 25) hc dX0_record_24 rfl rfl ?_
    refine gw_aload_n (q := 26) hc dX0_record_25 rfl rfl xg_0 ?_
    refine gw_get (q := 29) hc dX0_record_26 rfl cE_ED 1 (by decide) q199 (fun _ h => h) hC1.1.1 rfl ?_
    refine gw_aload_n (q := 30) hc dX0_record_29 rfl rfl xg_0 ?_
    refine gw_get (q := 33) hc dX0_record_30 rfl cE_ED 0 (by decide) q198 (fun _ h => h) hC1.1.1 rfl ?_
    refine gw_callV (q := 36) (bc' := 1) (bs' := 70) (As := []) hc dX0_record_33 rfl q263 mw_X1_copy (rc_o hc cE_HO hH1.2.2.1) rfl rfl (m_X1_copy hH1 hW.1.1 hW.1.2.1 hW.2.2.1 (rw_b hW) (by omega) (by omega) (nid := nid) (by omega)) ⟨Nat.le_of_ble_eq_true rfl, Nat.le_of_ble_eq_true rfl⟩ (Nat.le_of_ble_eq_true rfl) (Nat.le_of_ble_eq_true rfl) (Nat.le_of_ble_eq_true rfl) (goA fun r33 G33 h33 => ?_)
    obtain ⟨tgB, B, WB, er33, htB, hHB⟩ := h33
    subst er33
    have hCB := ed_oth hC1 htB (by omega) (by omega)
    refine gw_x0 hc (fun hX5 => ?_)
    obtain ⟨mcq, arq, hmcq, hQc, hQa, harq⟩ := alR_P hCB.2.2.2.2.1
    have hobq : obL G33 1 k1 (fun i => A1 i 0) := fun i a b => by
        obtain ⟨-, W9, h9⟩ := hCB.2.1 i (Or.inr (Or.inl ⟨a, b⟩))
        exact ⟨_, h9.2.2.1⟩
    refine gw_callF (q := 41) (bc' := 0) (bs' := 6) (As := [_]) hc dX0_record_36 rfl cE_AL q526 mf_J2_add_7 rfl rfl (m_J2_add hHB.2.2.1 cE_HO q1550 hobq hQc hQa (by omega)) (rc_o hc cE_AL hQc) ⟨Nat.le_of_ble_eq_true rfl, Nat.le_of_ble_eq_true rfl⟩ (Nat.le_of_ble_eq_true rfl) (Nat.le_of_ble_eq_true rfl) (Nat.le_of_ble_eq_true rfl) (goI fun r36 G36 h36 => ?_)
    obtain ⟨-, had⟩ := h36
    obtain ⟨tg3, ht3, hC3⟩ := ed_add (P' := rmF S P kn) hCB (by omega) hHB hQc harq hX5 had (by omega) hk2 hk3
    refine gw_pop (q := 42) hc dX0_record_41 rfl rfl ?_
    exact gw_vret hc dX0_record_42 ⟨rfl, ⟨tg3, frE_tr (frE_of ht9 (by omega)) (frE_tr (frE_of htB (by omega)) (frE_of ht3 (by omega))), _, _, by rw [← hk1.2]; exact hC3⟩⟩

