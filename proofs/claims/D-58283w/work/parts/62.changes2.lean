/-! ===== THE CLASS: changes, the rest ===== -/
set_option maxRecDepth 100000
theorem taF_o {S : Int → Int} {k : Nat} {i : Int} (h : i ≠ 11 + 13 * (k : Int) + 7) : taF S k i = S i := fu_n (by omega)
theorem taF_7 {S : Int → Int} {k : Nat} : taF S k (11 + 13 * (k : Int) + 7) = 1 := by
  unfold taF
  rw [show (0 : Int) + 11 + 13 * (k : Int) + 7 = 11 + 13 * (k : Int) + 7 by omega, fu_s]
theorem ta_cell {A : Nat → Nat} {S W : Int → Int} {k : Nat} : mtC A (taF S k) W k = mtO k (thV A S k) (A (20 + k)) (A (40 + k)) (W k) (S (11 + 13 * (k : Int) + 1)) (S (11 + 13 * (k : Int) + 2)) (S (11 + 13 * (k : Int) + 9)) (S (11 + 13 * (k : Int) + 3)) (S (11 + 13 * (k : Int) + 4)) (S (11 + 13 * (k : Int) + 11)) (S (11 + 13 * (k : Int) + 12)) (S (11 + 13 * (k : Int) + 8)) (S (11 + 13 * (k : Int) + 10)) (S (11 + 13 * (k : Int) + 6)) 1 (S (11 + 13 * (k : Int) + 5)) := by
  unfold mtC thV
  rw [taF_7, taF_o (by omega), taF_o (by omega), taF_o (by omega), taF_o (by omega), taF_o (by omega), taF_o (by omega), taF_o (by omega), taF_o (by omega), taF_o (by omega), taF_o (by omega), taF_o (by omega), taF_o (by omega)]
theorem leM (i : Int) : (0 ≤ leastF i ∧ leastF i ≤ 100) ∧ 0 ≤ mostF i ∧ mostF i ≤ 5000 := by
  unfold leastF mostF
  constructor
  · split <;> omega
  · (repeat' split) <;> omega
theorem wnS_e {i v : Int} : wnS i v = if (0 ≤ i ∧ i ≤ 5) ∧ (leastF i ≤ v ∧ v ≤ mostF i) then 0 else -2 := rfl

theorem mw_X0_whyNotTamper : mV "EnergyDiscs" yX0_whyNotTamper cX0_whyNotTamper 2 (some FieldType.int) 1 := ⟨⟨rfl, by decide +kernel, by decide +kernel, by decide +kernel⟩, q597, qs14, q73, q598⟩
set_option maxHeartbeats 4000000 in
theorem m_X0_tampers {l : Launch} {D : va_G} {X : Nat → Nat} {b0 : Nat} {tg : Nat → Nat} {e nid pl sv pd : Nat} {h : Int → Nat} {A : Int → Nat → Nat} {S P L V Pd : Int → Int} {kn ln N : Int} {G : gM} (hC : edC D X tg e nid pl sv pd h A S P kn L V Pd ln G)  (hW : rowW S N) (hn : nid < 890) {P2 : Int → Int} {kn2 : Int} {nid2 : Nat} {ch : Int} (hch : chR ch S P kn nid P2 kn2 nid2) {m : Int} (hm : rI m) : gMet l D X b0 yX0_tampers cX0_tampers 4 (some FieldType.int) (rmE 12 80 2730) [.ref e, .int (iI m), .int (iI ch)] G (edQ D X tg e nid2 (taF S m) P2 kn2 L V Pd ln G (wnT S m) (S (11 + 13 * m + 6))) := by
  refine gm_start (own := "EnergyDiscs") (lv := [some (.ref e), some (.int (iI m)), some (.int (iI ch)), none]) (by decide +kernel) rfl (Nat.le_of_ble_eq_true rfl) rfl (fun p_ e_ s_ m_ args_ below_ meth_ c_ hc hnm => ?_)
  obtain ⟨hlt, W, hH⟩ := ed_H hC
  obtain ⟨mcm, arm, hmcm, hMc, hMa, -⟩ := alR_P hH.2.2.2.2.1
  obtain ⟨mcl, arl, hmcl, hLc, hLa, -⟩ := alR_P hH.2.2.2.2.2.1
  have hb := hH.1
  have hwr : -5 ≤ wnT S m ∧ wnT S m ≤ 0 := by unfold wnT; (repeat' split) <;> omega
  have hn2 := ch_n hch
  have hc01 := ch_c hch
  refine gw_aload_n (q := 1) hc dX0_tampers_0 rfl rfl xg_0 ?_
  refine gw_aload_n (q := 2) hc dX0_tampers_1 rfl rfl xg_0 ?_
  refine gw_iload_n (q := 3) hc dX0_tampers_2 rfl rfl xg_1 ?_
  refine gw_callV (q := 6) (bc' := 80) (bs' := 2730) (As := [_]) hc dX0_tampers_3 rfl q595 mw_X0_whyNotTamper (rc_o hc cE_ED hC.1.1) rfl rfl (m_X0_whyNotTamper hC hW hm) ⟨Nat.le_of_ble_eq_true rfl, Nat.le_of_ble_eq_true rfl⟩ (Nat.le_of_ble_eq_true rfl) (Nat.le_of_ble_eq_true rfl) (Nat.le_of_ble_eq_true rfl) (goI fun r3 G3 h3 => ?_)
  obtain ⟨er3, hgg⟩ := h3
  rw [hgg, er3]
  refine gw_iload_n (q := 7) hc dX0_tampers_6 rfl rfl xg_2 ?_
  refine gw_callV (q := 10) (bc' := 0) (bs' := 0) (As := [_, _]) hc dX0_tampers_7 rfl q223 mw_X0_begun (rc_o hc cE_ED hC.1.1) rfl rfl (m_X0_begun hC hW hn hch (by omega)) ⟨Nat.le_of_ble_eq_true rfl, Nat.le_of_ble_eq_true rfl⟩ (Nat.le_of_ble_eq_true rfl) (Nat.le_of_ble_eq_true rfl) (Nat.le_of_ble_eq_true rfl) (goI fun r7 G7 h7 => ?_)
  obtain ⟨er7, hcase⟩ := h7
  rw [er7]
  refine gw_istore_n (q := 11) hc dX0_tampers_10 rfl rfl xs_3 (by decide) (n2p xg_2 rfl) ?_
  refine gw_iload_n (q := 12) hc dX0_tampers_11 rfl rfl xg_3 ?_
  refine gw_if_ge  (q := 15) (t := 17) hc dX0_tampers_12 rfl (by decide) (by omega) (fun c12 => ?_) (fun c12 => ?_)
  · obtain ⟨hw0, tg1, hf1, h2, A2, hC2⟩ : wnT S m = 0 ∧ ∃ tg1 : Nat → Nat, frE tg tg1 G G7 ∧ ∃ (h2 : Int → Nat) (A2 : Int → Nat → Nat), edC D X tg1 e nid2 pl sv pd h2 A2 S P2 kn2 L V Pd ln G7 := by rcases hcase with ⟨q, -⟩ | q; (exfalso; omega); exact q
    obtain ⟨hlt2, W2, hH2⟩ := ed_H hC2
    obtain ⟨mcm2, arm2, hmcm2, hMc2, hMa2, -⟩ := alR_P hH2.2.2.2.2.1
    obtain ⟨mcl2, arl2, hmcl2, hLc2, hLa2, -⟩ := alR_P hH2.2.2.2.2.2.1
    have hmr : 0 ≤ m ∧ m < S 7 := by unfold wnT at hw0; (repeat' split at hw0) <;> omega
    obtain ⟨k, rfl⟩ : ∃ k : Nat, m = k := ⟨m.toNat, by omega⟩
    have hk7 : (k : Int) < S 7 := by omega
    have hmt2 := (hH2.2.2.2.2.2.2.1 k hk7).1
    refine gw_aload_n (q := 18) hc dX0_tampers_17 rfl rfl xg_0 ?_
    refine gw_iload_n (q := 19) hc dX0_tampers_18 rfl rfl xg_1 ?_
    refine gw_callV (q := 22) (bc' := 0) (bs' := 0) (As := [_]) hc dX0_tampers_19 rfl q599 mw_X0_meterAt (rc_o hc cE_ED hC2.1.1) rfl rfl (m_X0_meterAt hC2 (by omega)) ⟨Nat.le_of_ble_eq_true rfl, Nat.le_of_ble_eq_true rfl⟩ (Nat.le_of_ble_eq_true rfl) (Nat.le_of_ble_eq_true rfl) (Nat.le_of_ble_eq_true rfl) (goA fun r19 G19 h19 => ?_)
    obtain ⟨er19, hgg⟩ := h19
    rw [hgg, er19]
    refine gw_iconst (q := 23) hc dX0_tampers_22 rfl ?_
    refine gw_putN (q := 26) hc dX0_tampers_23 rfl cE_ME 15 (by decide) q450 (fun _ h => h) rfl hmt2 (nz (by omega)) rfl (Nat.le_of_ble_eq_true rfl) ?_
    refine gw_G (show _ = gup G7 (A2 (-1) (10 + k)) (mtC (A2 (-1)) (taF S (k : Int)) W2 k) from by rw [ta_cell]; rfl) ?_
    have hH3 := hs_upM (S' := taF S (k : Int)) (W' := W2) (m := k) hH2 hk7 (fun i _ _ _ h => taF_o (by omega)) (fun _ _ _ => rfl)
    have ht3 := tgR_upH (a := A2 (-1) (10 + k)) (e := mtC (A2 (-1)) (taF S (k : Int)) W2 k) (tgR_rf (tg := tg1) (hid := h2 (-1)) (G := G7)) (by rw [hH2.2.1 _ (us_m hk7)]; omega) (nn_s hmt2)
    have hC3 := ed_now hC2 ht3 hH3 rfl (by omega)
    have e7 : taF S (k : Int) 7 = S 7 := taF_o (by omega)
    have hmt3 := (hH3.2.2.2.2.2.2.1 k (by rw [e7]; exact hk7)).1
    have e6 : taF S (k : Int) (11 + 13 * (k : Int) + 6) = S (11 + 13 * (k : Int) + 6) := taF_o (by omega)
    refine gw_aload_n (q := 27) hc dX0_tampers_26 rfl rfl xg_0 ?_
    refine gw_iload_n (q := 28) hc dX0_tampers_27 rfl rfl xg_1 ?_
    refine gw_callV (q := 31) (bc' := 0) (bs' := 0) (As := [_]) hc dX0_tampers_28 rfl q599 mw_X0_meterAt (rc_o hc cE_ED hC3.1.1) rfl rfl (m_X0_meterAt hC3 (by omega)) ⟨Nat.le_of_ble_eq_true rfl, Nat.le_of_ble_eq_true rfl⟩ (Nat.le_of_ble_eq_true rfl) (Nat.le_of_ble_eq_true rfl) (Nat.le_of_ble_eq_true rfl) (goA fun r28 G28 h28 => ?_)
    obtain ⟨er28, hgg⟩ := h28
    rw [hgg, er28, fu_s]
    refine gw_getN (q := 34) hc dX0_tampers_31 rfl cE_ME 14 (by decide) q447 (fun _ h => h) hmt3 rfl ?_
    rw [e6]
    exact gw_iret hc dX0_tampers_34 ⟨_, rfl, Or.inr ⟨hw0, rfl, tg1, frE_tr hf1 (frE_of ht3 (by omega)), pl, sv, pd, _, _, hC3⟩⟩
  · have hgg : G7 = G := by rcases hcase with ⟨-, q⟩ | ⟨q, -⟩; (exact q); omega
    rw [hgg]
    refine gw_iload_n (q := 16) hc dX0_tampers_15 rfl rfl xg_3 ?_
    exact gw_iret hc dX0_tampers_16 ⟨_, rfl, Or.inl ⟨by omega, rfl, rfl⟩⟩

theorem mw_X0_tampers : mV "EnergyDiscs" yX0_tampers cX0_tampers 4 (some FieldType.int) 2 := ⟨⟨rfl, by decide +kernel, by decide +kernel, by decide +kernel⟩, q593, qs13, q73, q594⟩
set_option maxHeartbeats 4000000 in
theorem m_X0_tamper {l : Launch} {D : va_G} {X : Nat → Nat} {b0 : Nat} {tg : Nat → Nat} {e nid pl sv pd : Nat} {h : Int → Nat} {A : Int → Nat → Nat} {S P L V Pd : Int → Int} {kn ln N : Int} {G : gM} (hC : edC D X tg e nid pl sv pd h A S P kn L V Pd ln G) (hW : rowW S N) (hn : nid < 890) {m : Int} (hm : rI m) : gMet l D X b0 yX0_tamper cX0_tamper 2 (some FieldType.int) (rmE 13 80 2730) [.ref e, .int (iI m)] G (edQ D X tg e (nid + 1) (taF S m) (rmF S P kn) (rmK kn) L V Pd ln G (wnT S m) (S (11 + 13 * m + 6))) := by
  refine gm_start (own := "EnergyDiscs") (lv := [some (.ref e), some (.int (iI m))]) (by decide +kernel) rfl (Nat.le_of_ble_eq_true rfl) rfl (fun p_ e_ s_ m_ args_ below_ meth_ c_ hc hnm => ?_)
  obtain ⟨hlt, W, hH⟩ := ed_H hC
  obtain ⟨mcm, arm, hmcm, hMc, hMa, -⟩ := alR_P hH.2.2.2.2.1
  obtain ⟨mcl, arl, hmcl, hLc, hLa, -⟩ := alR_P hH.2.2.2.2.2.1
  have hb := hH.1
  refine gw_aload_n (q := 1) hc dX0_tamper_0 rfl rfl xg_0 ?_
  refine gw_iload_n (q := 2) hc dX0_tamper_1 rfl rfl xg_1 ?_
  refine gw_iconst (q := 3) hc dX0_tamper_2 rfl ?_
  refine gw_callV (q := 6) (bc' := 0) (bs' := 0) (As := [_, _]) hc dX0_tamper_3 rfl q591 mw_X0_tampers (rc_o hc cE_ED hC.1.1) rfl rfl (m_X0_tampers hC hW hn (Or.inl ⟨rfl, rfl, rfl, rfl⟩) hm) ⟨Nat.le_of_ble_eq_true rfl, Nat.le_of_ble_eq_true rfl⟩ (Nat.le_of_ble_eq_true rfl) (Nat.le_of_ble_eq_true rfl) (Nat.le_of_ble_eq_true rfl) (goI fun r3 G3 h3 => ?_)
  exact gw_iret hc dX0_tamper_6 ⟨_, rfl, h3⟩

theorem mw_X1_visit : mV "EnergyDiscs$House" yX1_visit cX1_visit 3 (some FieldType.int) 1 := ⟨⟨rfl, by decide +kernel, by decide +kernel, by decide +kernel⟩, q613, q614, q74, q615⟩
set_option maxHeartbeats 4000000 in
theorem m_X0_visits {l : Launch} {D : va_G} {X : Nat → Nat} {b0 : Nat} {tg : Nat → Nat} {e nid pl sv pd : Nat} {h : Int → Nat} {A : Int → Nat → Nat} {S P L V Pd : Int → Int} {kn ln N : Int} {G : gM} (hC : edC D X tg e nid pl sv pd h A S P kn L V Pd ln G)  (hW : rowW S N) (hn : nid < 890) {P2 : Int → Int} {kn2 : Int} {nid2 : Nat} {ch : Int} (hch : chR ch S P kn nid P2 kn2 nid2) {m : Int} (hm : rI m) : gMet l D X b0 yX0_visits cX0_visits 4 (some FieldType.int) (rmE 12 80 2730) [.ref e, .int (iI m), .int (iI ch)] G (edQ D X tg e nid2 (viF S m) P2 kn2 L V Pd ln G (wnI S m) (biF S m)) := by
  refine gm_start (own := "EnergyDiscs") (lv := [some (.ref e), some (.int (iI m)), some (.int (iI ch)), none]) (by decide +kernel) rfl (Nat.le_of_ble_eq_true rfl) rfl (fun p_ e_ s_ m_ args_ below_ meth_ c_ hc hnm => ?_)
  obtain ⟨hlt, W, hH⟩ := ed_H hC
  obtain ⟨mcm, arm, hmcm, hMc, hMa, -⟩ := alR_P hH.2.2.2.2.1
  obtain ⟨mcl, arl, hmcl, hLc, hLa, -⟩ := alR_P hH.2.2.2.2.2.1
  have hb := hH.1
  have hn2 := ch_n hch
  have hc01 := ch_c hch
  refine gw_aload_n (q := 1) hc dX0_visits_0 rfl rfl xg_0 ?_
  refine gw_aload_n (q := 2) hc dX0_visits_1 rfl rfl xg_0 ?_
  refine gw_iload_n (q := 3) hc dX0_visits_2 rfl rfl xg_1 ?_
  refine gw_callV (q := 6) (bc' := 80) (bs' := 2730) (As := [_]) hc dX0_visits_3 rfl q548 mw_X0_isMeter (rc_o hc cE_ED hC.1.1) rfl rfl (m_X0_isMeter hC hm) ⟨Nat.le_of_ble_eq_true rfl, Nat.le_of_ble_eq_true rfl⟩ (Nat.le_of_ble_eq_true rfl) (Nat.le_of_ble_eq_true rfl) (Nat.le_of_ble_eq_true rfl) (goI fun r3 G3 h3 => ?_)
  obtain ⟨b3, hgg⟩ := h3
  rw [hgg]
  refine gw_if_eq  (q := 9) (t := 13) hc dX0_visits_6 rfl (by decide) (by omega) (fun c6 => ?_) (fun c6 => ?_)
  · skip
    refine gw_iconst (q := 14) hc dX0_visits_13 rfl ?_
    refine gw_iload_n (q := 15) hc dX0_visits_14 rfl rfl xg_2 ?_
    refine gw_callV (q := 18) (bc' := 0) (bs' := 0) (As := [_, _]) hc dX0_visits_15 rfl q223 mw_X0_begun (rc_o hc cE_ED hC.1.1) rfl rfl (m_X0_begun hC hW hn hch (by omega)) ⟨Nat.le_of_ble_eq_true rfl, Nat.le_of_ble_eq_true rfl⟩ (Nat.le_of_ble_eq_true rfl) (Nat.le_of_ble_eq_true rfl) (Nat.le_of_ble_eq_true rfl) (goI fun r15 G15 h15 => ?_)
    obtain ⟨er15, hcase⟩ := h15
    rw [er15]
    refine gw_istore_n (q := 19) hc dX0_visits_18 rfl rfl xs_3 (by decide) (n2p xg_2 rfl) ?_
    refine gw_iload_n (q := 20) hc dX0_visits_19 rfl rfl xg_3 ?_
    refine gw_if_ge  (q := 23) (t := 27) hc dX0_visits_20 rfl (by decide) (by omega) (fun c20 => ?_) (fun c20 => ?_)
    · obtain ⟨hw0, tg1, hf1, h2, A2, hC2⟩ : (0 ≤ m ∧ m < S 7) ∧ ∃ tg1 : Nat → Nat, frE tg tg1 G G15 ∧ ∃ (h2 : Int → Nat) (A2 : Int → Nat → Nat), edC D X tg1 e nid2 pl sv pd h2 A2 S P2 kn2 L V Pd ln G15 := by rcases hcase with ⟨q, -⟩ | q; (exfalso; omega); exact ⟨by omega, q.2⟩
      obtain ⟨hlt2, W2, hH2⟩ := ed_H hC2
      obtain ⟨mcm2, arm2, hmcm2, hMc2, hMa2, -⟩ := alR_P hH2.2.2.2.2.1
      obtain ⟨mcl2, arl2, hmcl2, hLc2, hLa2, -⟩ := alR_P hH2.2.2.2.2.2.1
      obtain ⟨k, rfl⟩ : ∃ k : Nat, m = k := ⟨m.toNat, by omega⟩
      have hk7 : (k : Int) < S 7 := by omega
      have hmt2 := (hH2.2.2.2.2.2.2.1 k hk7).1
      refine gw_aload_n (q := 28) hc dX0_visits_27 rfl rfl xg_0 ?_
      refine gw_get (q := 31) hc dX0_visits_28 rfl cE_ED 0 (by decide) q198 (fun _ h => h) hC2.1.1 rfl ?_
      refine gw_aload_n (q := 32) hc dX0_visits_31 rfl rfl xg_0 ?_
      refine gw_iload_n (q := 33) hc dX0_visits_32 rfl rfl xg_1 ?_
      refine gw_callV (q := 36) (bc' := 0) (bs' := 0) (As := [_]) hc dX0_visits_33 rfl q599 mw_X0_meterAt (rc_o hc cE_ED hC2.1.1) rfl rfl (m_X0_meterAt hC2 (by omega)) ⟨Nat.le_of_ble_eq_true rfl, Nat.le_of_ble_eq_true rfl⟩ (Nat.le_of_ble_eq_true rfl) (Nat.le_of_ble_eq_true rfl) (Nat.le_of_ble_eq_true rfl) (goA fun r33 G33 h33 => ?_)
      obtain ⟨er33, hgg⟩ := h33
      rw [hgg, er33]
      refine gw_callV (q := 39) (bc' := 0) (bs' := 0) (As := [_]) hc dX0_visits_36 rfl q612 mw_X1_visit (rc_o hc cE_HO hH2.2.2.1) rfl rfl (m_X1_visit hH2 hW hk7) ⟨Nat.le_of_ble_eq_true rfl, Nat.le_of_ble_eq_true rfl⟩ (Nat.le_of_ble_eq_true rfl) (Nat.le_of_ble_eq_true rfl) (Nat.le_of_ble_eq_true rfl) (goI fun r36 G36 h36 => ?_)
      obtain ⟨er36, hH3, hfr3⟩ := h36
      rw [er36]
      exact gw_iret hc dX0_visits_39 ⟨_, rfl, Or.inr ⟨by unfold wnI; rw [if_pos (by omega)], rfl, tg1, frE_tr hf1 (frE_w (tgW_H hfr3) (by omega)), pl, sv, pd, _, _, ed_nowW hC2 (tgW_H hfr3) hH3 rfl (by omega)⟩⟩
    · have hgg : G15 = G := by rcases hcase with ⟨-, q⟩ | ⟨q, -⟩; (exact q); omega
      rw [hgg]
      refine gw_iload_n (q := 24) hc dX0_visits_23 rfl rfl xg_3 ?_
      refine gw_goto (q := 39) hc dX0_visits_24 (by decide) ?_
      exact gw_iret hc dX0_visits_39 ⟨_, rfl, Or.inl ⟨by unfold wnI; rw [if_neg (by omega)]; omega, by unfold wnI; first | (exfalso; omega) | rw [if_neg (by omega)], rfl⟩⟩
  · skip
    refine gw_iconst (q := 10) hc dX0_visits_9 rfl ?_
    refine gw_goto (q := 14) hc dX0_visits_10 (by decide) ?_
    refine gw_iload_n (q := 15) hc dX0_visits_14 rfl rfl xg_2 ?_
    refine gw_callV (q := 18) (bc' := 0) (bs' := 0) (As := [_, _]) hc dX0_visits_15 rfl q223 mw_X0_begun (rc_o hc cE_ED hC.1.1) rfl rfl (m_X0_begun hC hW hn hch (by omega)) ⟨Nat.le_of_ble_eq_true rfl, Nat.le_of_ble_eq_true rfl⟩ (Nat.le_of_ble_eq_true rfl) (Nat.le_of_ble_eq_true rfl) (Nat.le_of_ble_eq_true rfl) (goI fun r15 G15 h15 => ?_)
    obtain ⟨er15, hcase⟩ := h15
    rw [er15]
    refine gw_istore_n (q := 19) hc dX0_visits_18 rfl rfl xs_3 (by decide) (n2p xg_2 rfl) ?_
    refine gw_iload_n (q := 20) hc dX0_visits_19 rfl rfl xg_3 ?_
    refine gw_if_ge  (q := 23) (t := 27) hc dX0_visits_20 rfl (by decide) (by omega) (fun c20 => ?_) (fun c20 => ?_)
    · obtain ⟨hw0, tg1, hf1, h2, A2, hC2⟩ : (0 ≤ m ∧ m < S 7) ∧ ∃ tg1 : Nat → Nat, frE tg tg1 G G15 ∧ ∃ (h2 : Int → Nat) (A2 : Int → Nat → Nat), edC D X tg1 e nid2 pl sv pd h2 A2 S P2 kn2 L V Pd ln G15 := by rcases hcase with ⟨q, -⟩ | q; (exfalso; omega); exact ⟨by omega, q.2⟩
      obtain ⟨hlt2, W2, hH2⟩ := ed_H hC2
      obtain ⟨mcm2, arm2, hmcm2, hMc2, hMa2, -⟩ := alR_P hH2.2.2.2.2.1
      obtain ⟨mcl2, arl2, hmcl2, hLc2, hLa2, -⟩ := alR_P hH2.2.2.2.2.2.1
      obtain ⟨k, rfl⟩ : ∃ k : Nat, m = k := ⟨m.toNat, by omega⟩
      have hk7 : (k : Int) < S 7 := by omega
      have hmt2 := (hH2.2.2.2.2.2.2.1 k hk7).1
      refine gw_aload_n (q := 28) hc dX0_visits_27 rfl rfl xg_0 ?_
      refine gw_get (q := 31) hc dX0_visits_28 rfl cE_ED 0 (by decide) q198 (fun _ h => h) hC2.1.1 rfl ?_
      refine gw_aload_n (q := 32) hc dX0_visits_31 rfl rfl xg_0 ?_
      refine gw_iload_n (q := 33) hc dX0_visits_32 rfl rfl xg_1 ?_
      refine gw_callV (q := 36) (bc' := 0) (bs' := 0) (As := [_]) hc dX0_visits_33 rfl q599 mw_X0_meterAt (rc_o hc cE_ED hC2.1.1) rfl rfl (m_X0_meterAt hC2 (by omega)) ⟨Nat.le_of_ble_eq_true rfl, Nat.le_of_ble_eq_true rfl⟩ (Nat.le_of_ble_eq_true rfl) (Nat.le_of_ble_eq_true rfl) (Nat.le_of_ble_eq_true rfl) (goA fun r33 G33 h33 => ?_)
      obtain ⟨er33, hgg⟩ := h33
      rw [hgg, er33]
      refine gw_callV (q := 39) (bc' := 0) (bs' := 0) (As := [_]) hc dX0_visits_36 rfl q612 mw_X1_visit (rc_o hc cE_HO hH2.2.2.1) rfl rfl (m_X1_visit hH2 hW hk7) ⟨Nat.le_of_ble_eq_true rfl, Nat.le_of_ble_eq_true rfl⟩ (Nat.le_of_ble_eq_true rfl) (Nat.le_of_ble_eq_true rfl) (Nat.le_of_ble_eq_true rfl) (goI fun r36 G36 h36 => ?_)
      obtain ⟨er36, hH3, hfr3⟩ := h36
      rw [er36]
      exact gw_iret hc dX0_visits_39 ⟨_, rfl, Or.inr ⟨by unfold wnI; rw [if_pos (by omega)], rfl, tg1, frE_tr hf1 (frE_w (tgW_H hfr3) (by omega)), pl, sv, pd, _, _, ed_nowW hC2 (tgW_H hfr3) hH3 rfl (by omega)⟩⟩
    · have hgg : G15 = G := by rcases hcase with ⟨-, q⟩ | ⟨q, -⟩; (exact q); omega
      rw [hgg]
      refine gw_iload_n (q := 24) hc dX0_visits_23 rfl rfl xg_3 ?_
      refine gw_goto (q := 39) hc dX0_visits_24 (by decide) ?_
      exact gw_iret hc dX0_visits_39 ⟨_, rfl, Or.inl ⟨by unfold wnI; rw [if_neg (by omega)]; omega, by unfold wnI; first | (exfalso; omega) | rw [if_neg (by omega)], rfl⟩⟩

theorem mw_X0_visits : mV "EnergyDiscs" yX0_visits cX0_visits 4 (some FieldType.int) 2 := ⟨⟨rfl, by decide +kernel, by decide +kernel, by decide +kernel⟩, q610, qs16, q73, q611⟩
set_option maxHeartbeats 4000000 in
theorem m_X0_visit {l : Launch} {D : va_G} {X : Nat → Nat} {b0 : Nat} {tg : Nat → Nat} {e nid pl sv pd : Nat} {h : Int → Nat} {A : Int → Nat → Nat} {S P L V Pd : Int → Int} {kn ln N : Int} {G : gM} (hC : edC D X tg e nid pl sv pd h A S P kn L V Pd ln G) (hW : rowW S N) (hn : nid < 890) {m : Int} (hm : rI m) : gMet l D X b0 yX0_visit cX0_visit 2 (some FieldType.int) (rmE 13 80 2730) [.ref e, .int (iI m)] G (edQ D X tg e (nid + 1) (viF S m) (rmF S P kn) (rmK kn) L V Pd ln G (wnI S m) (biF S m)) := by
  refine gm_start (own := "EnergyDiscs") (lv := [some (.ref e), some (.int (iI m))]) (by decide +kernel) rfl (Nat.le_of_ble_eq_true rfl) rfl (fun p_ e_ s_ m_ args_ below_ meth_ c_ hc hnm => ?_)
  obtain ⟨hlt, W, hH⟩ := ed_H hC
  obtain ⟨mcm, arm, hmcm, hMc, hMa, -⟩ := alR_P hH.2.2.2.2.1
  obtain ⟨mcl, arl, hmcl, hLc, hLa, -⟩ := alR_P hH.2.2.2.2.2.1
  have hb := hH.1
  refine gw_aload_n (q := 1) hc dX0_visit_0 rfl rfl xg_0 ?_
  refine gw_iload_n (q := 2) hc dX0_visit_1 rfl rfl xg_1 ?_
  refine gw_iconst (q := 3) hc dX0_visit_2 rfl ?_
  refine gw_callV (q := 6) (bc' := 0) (bs' := 0) (As := [_, _]) hc dX0_visit_3 rfl q608 mw_X0_visits (rc_o hc cE_ED hC.1.1) rfl rfl (m_X0_visits hC hW hn (Or.inl ⟨rfl, rfl, rfl, rfl⟩) hm) ⟨Nat.le_of_ble_eq_true rfl, Nat.le_of_ble_eq_true rfl⟩ (Nat.le_of_ble_eq_true rfl) (Nat.le_of_ble_eq_true rfl) (Nat.le_of_ble_eq_true rfl) (goI fun r3 G3 h3 => ?_)
  exact gw_iret hc dX0_visit_6 ⟨_, rfl, h3⟩

theorem mw_X0_whyNotPass : mV "EnergyDiscs" yX0_whyNotPass cX0_whyNotPass 2 (some FieldType.int) 1 := ⟨⟨rfl, by decide +kernel, by decide +kernel, by decide +kernel⟩, q634, qs18, q73, q635⟩
theorem mw_X1_pass : mV "EnergyDiscs$House" yX1_pass cX1_pass 4 (some FieldType.int) 1 := ⟨⟨rfl, by decide +kernel, by decide +kernel, by decide +kernel⟩, q638, q639, q74, q640⟩
set_option maxHeartbeats 4000000 in
theorem m_X0_passes {l : Launch} {D : va_G} {X : Nat → Nat} {b0 : Nat} {tg : Nat → Nat} {e nid pl sv pd : Nat} {h : Int → Nat} {A : Int → Nat → Nat} {S P L V Pd : Int → Int} {kn ln N : Int} {G : gM} (hC : edC D X tg e nid pl sv pd h A S P kn L V Pd ln G)  (hW : rowW S N) (hn : nid < 890) {P2 : Int → Int} {kn2 : Int} {nid2 : Nat} {ch : Int} (hch : chR ch S P kn nid P2 kn2 nid2) {t : Int} (ht : rI t) : gMet l D X b0 yX0_passes cX0_passes 4 (some FieldType.int) (rmE 13 80 2730) [.ref e, .int (iI t), .int (iI ch)] G (edQ D X tg e nid2 (paF S t.toNat) P2 kn2 L V Pd ln G (wnP S t) (paT S t.toNat)) := by
  refine gm_start (own := "EnergyDiscs") (lv := [some (.ref e), some (.int (iI t)), some (.int (iI ch)), none]) (by decide +kernel) rfl (Nat.le_of_ble_eq_true rfl) rfl (fun p_ e_ s_ m_ args_ below_ meth_ c_ hc hnm => ?_)
  obtain ⟨hlt, W, hH⟩ := ed_H hC
  obtain ⟨mcm, arm, hmcm, hMc, hMa, -⟩ := alR_P hH.2.2.2.2.1
  obtain ⟨mcl, arl, hmcl, hLc, hLa, -⟩ := alR_P hH.2.2.2.2.2.1
  have hb := hH.1
  have hwr : -5 ≤ wnP S t ∧ wnP S t ≤ 0 := by unfold wnP; (repeat' split) <;> omega
  have hn2 := ch_n hch
  have hc01 := ch_c hch
  refine gw_aload_n (q := 1) hc dX0_passes_0 rfl rfl xg_0 ?_
  refine gw_aload_n (q := 2) hc dX0_passes_1 rfl rfl xg_0 ?_
  refine gw_iload_n (q := 3) hc dX0_passes_2 rfl rfl xg_1 ?_
  refine gw_callV (q := 6) (bc' := 80) (bs' := 2730) (As := [_]) hc dX0_passes_3 rfl q632 mw_X0_whyNotPass (rc_o hc cE_ED hC.1.1) rfl rfl (m_X0_whyNotPass hC hW ht) ⟨Nat.le_of_ble_eq_true rfl, Nat.le_of_ble_eq_true rfl⟩ (Nat.le_of_ble_eq_true rfl) (Nat.le_of_ble_eq_true rfl) (Nat.le_of_ble_eq_true rfl) (goI fun r3 G3 h3 => ?_)
  obtain ⟨er3, hgg⟩ := h3
  rw [hgg, er3]
  refine gw_iload_n (q := 7) hc dX0_passes_6 rfl rfl xg_2 ?_
  refine gw_callV (q := 10) (bc' := 0) (bs' := 0) (As := [_, _]) hc dX0_passes_7 rfl q223 mw_X0_begun (rc_o hc cE_ED hC.1.1) rfl rfl (m_X0_begun hC hW hn hch (by omega)) ⟨Nat.le_of_ble_eq_true rfl, Nat.le_of_ble_eq_true rfl⟩ (Nat.le_of_ble_eq_true rfl) (Nat.le_of_ble_eq_true rfl) (Nat.le_of_ble_eq_true rfl) (goI fun r7 G7 h7 => ?_)
  obtain ⟨er7, hcase⟩ := h7
  rw [er7]
  refine gw_istore_n (q := 11) hc dX0_passes_10 rfl rfl xs_3 (by decide) (n2p xg_2 rfl) ?_
  refine gw_iload_n (q := 12) hc dX0_passes_11 rfl rfl xg_3 ?_
  refine gw_if_ge  (q := 15) (t := 19) hc dX0_passes_12 rfl (by decide) (by omega) (fun c12 => ?_) (fun c12 => ?_)
  · obtain ⟨hw0, tg1, hf1, h2, A2, hC2⟩ : wnP S t = 0 ∧ ∃ tg1 : Nat → Nat, frE tg tg1 G G7 ∧ ∃ (h2 : Int → Nat) (A2 : Int → Nat → Nat), edC D X tg1 e nid2 pl sv pd h2 A2 S P2 kn2 L V Pd ln G7 := by rcases hcase with ⟨q, -⟩ | q; (exfalso; omega); exact q
    obtain ⟨hlt2, W2, hH2⟩ := ed_H hC2
    obtain ⟨mcm2, arm2, hmcm2, hMc2, hMa2, -⟩ := alR_P hH2.2.2.2.2.1
    obtain ⟨mcl2, arl2, hmcl2, hLc2, hLa2, -⟩ := alR_P hH2.2.2.2.2.2.1
    have htr : 1 ≤ t ∧ t ≤ 1440 := by unfold wnP at hw0; (repeat' split at hw0) <;> omega
    refine gw_aload_n (q := 20) hc dX0_passes_19 rfl rfl xg_0 ?_
    refine gw_get (q := 23) hc dX0_passes_20 rfl cE_ED 0 (by decide) q198 (fun _ h => h) hC2.1.1 rfl ?_
    refine gw_iload_n (q := 24) hc dX0_passes_23 rfl rfl xg_1 ?_
    refine gw_callV (q := 27) (bc' := 0) (bs' := 0) (As := [_]) hc dX0_passes_24 rfl q637 mw_X1_pass (rc_o hc cE_HO hH2.2.2.1) rfl rfl (m_X1_pass hH2 hW (by omega)) ⟨Nat.le_of_ble_eq_true rfl, Nat.le_of_ble_eq_true rfl⟩ (Nat.le_of_ble_eq_true rfl) (Nat.le_of_ble_eq_true rfl) (Nat.le_of_ble_eq_true rfl) (goI fun r24 G24 h24 => ?_)
    obtain ⟨er24, W3, hH3, -, hfr3⟩ := h24
    rw [er24]
    exact gw_iret hc dX0_passes_27 ⟨_, rfl, Or.inr ⟨hw0, rfl, tg1, frE_tr hf1 (frE_w (tgW_H hfr3) (by omega)), pl, sv, pd, _, _, ed_nowW hC2 (tgW_H hfr3) hH3 rfl (by omega)⟩⟩
  · have hgg : G7 = G := by rcases hcase with ⟨-, q⟩ | ⟨q, -⟩; (exact q); omega
    rw [hgg]
    refine gw_iload_n (q := 16) hc dX0_passes_15 rfl rfl xg_3 ?_
    refine gw_goto (q := 27) hc dX0_passes_16 (by decide) ?_
    exact gw_iret hc dX0_passes_27 ⟨_, rfl, Or.inl ⟨by omega, rfl, rfl⟩⟩

theorem mw_X0_passes : mV "EnergyDiscs" yX0_passes cX0_passes 4 (some FieldType.int) 2 := ⟨⟨rfl, by decide +kernel, by decide +kernel, by decide +kernel⟩, q630, qs17, q73, q631⟩
set_option maxHeartbeats 4000000 in
theorem m_X0_pass {l : Launch} {D : va_G} {X : Nat → Nat} {b0 : Nat} {tg : Nat → Nat} {e nid pl sv pd : Nat} {h : Int → Nat} {A : Int → Nat → Nat} {S P L V Pd : Int → Int} {kn ln N : Int} {G : gM} (hC : edC D X tg e nid pl sv pd h A S P kn L V Pd ln G) (hW : rowW S N) (hn : nid < 890) {t : Int} (ht : rI t) : gMet l D X b0 yX0_pass cX0_pass 2 (some FieldType.int) (rmE 14 80 2730) [.ref e, .int (iI t)] G (edQ D X tg e (nid + 1) (paF S t.toNat) (rmF S P kn) (rmK kn) L V Pd ln G (wnP S t) (paT S t.toNat)) := by
  refine gm_start (own := "EnergyDiscs") (lv := [some (.ref e), some (.int (iI t))]) (by decide +kernel) rfl (Nat.le_of_ble_eq_true rfl) rfl (fun p_ e_ s_ m_ args_ below_ meth_ c_ hc hnm => ?_)
  obtain ⟨hlt, W, hH⟩ := ed_H hC
  obtain ⟨mcm, arm, hmcm, hMc, hMa, -⟩ := alR_P hH.2.2.2.2.1
  obtain ⟨mcl, arl, hmcl, hLc, hLa, -⟩ := alR_P hH.2.2.2.2.2.1
  have hb := hH.1
  refine gw_aload_n (q := 1) hc dX0_pass_0 rfl rfl xg_0 ?_
  refine gw_iload_n (q := 2) hc dX0_pass_1 rfl rfl xg_1 ?_
  refine gw_iconst (q := 3) hc dX0_pass_2 rfl ?_
  refine gw_callV (q := 6) (bc' := 0) (bs' := 0) (As := [_, _]) hc dX0_pass_3 rfl q628 mw_X0_passes (rc_o hc cE_ED hC.1.1) rfl rfl (m_X0_passes hC hW hn (Or.inl ⟨rfl, rfl, rfl, rfl⟩) ht) ⟨Nat.le_of_ble_eq_true rfl, Nat.le_of_ble_eq_true rfl⟩ (Nat.le_of_ble_eq_true rfl) (Nat.le_of_ble_eq_true rfl) (Nat.le_of_ble_eq_true rfl) (goI fun r3 G3 h3 => ?_)
  exact gw_iret hc dX0_pass_6 ⟨_, rfl, h3⟩

set_option maxHeartbeats 4000000 in
theorem m_X0_set {l : Launch} {D : va_G} {X : Nat → Nat} {b0 : Nat} {tg : Nat → Nat} {e nid pl sv pd : Nat} {h : Int → Nat} {A : Int → Nat → Nat} {S P L V Pd : Int → Int} {kn ln N : Int} {G : gM} (hC : edC D X tg e nid pl sv pd h A S P kn L V Pd ln G) (hW : rowW S N) (hn : nid < 890) {i v : Int} (hi : rI i) (hv : rI v) : gMet l D X b0 yX0_set cX0_set 6 (some FieldType.int) (rmE 12 80 2730) [.ref e, .int (iI i), .int (iI v)] G (edQ D X tg e (nid + 1) (fu S i v) (rmF S P kn) (rmK kn) L V Pd ln G (wnS i v) (S i)) := by
  refine gm_start (own := "EnergyDiscs") (lv := [some (.ref e), some (.int (iI i)), some (.int (iI v)), none, none, none]) (by decide +kernel) rfl (Nat.le_of_ble_eq_true rfl) rfl (fun p_ e_ s_ m_ args_ below_ meth_ c_ hc hnm => ?_)
  obtain ⟨hlt, W, hH⟩ := ed_H hC
  obtain ⟨mcm, arm, hmcm, hMc, hMa, -⟩ := alR_P hH.2.2.2.2.1
  obtain ⟨mcl, arl, hmcl, hLc, hLa, -⟩ := alR_P hH.2.2.2.2.2.1
  have hb := hH.1
  have hlm := leM i
  refine gw_iload_n (q := 1) hc dX0_set_0 rfl rfl xg_1 ?_
  refine gw_iconst (q := 2) hc dX0_set_1 rfl ?_
  refine gw_iconst (q := 3) hc dX0_set_2 rfl ?_
  refine gw_callS (q := 6) (bc' := 80) (bs' := 2730) (As := [_, _, _]) hc dX0_set_3 rfl q216 mw_X0_isIn rfl rfl (m_X0_isIn hi (by omega) (by omega)) ⟨Nat.le_of_ble_eq_true rfl, Nat.le_of_ble_eq_true rfl⟩ (Nat.le_of_ble_eq_true rfl) (Nat.le_of_ble_eq_true rfl) (Nat.le_of_ble_eq_true rfl) (goI fun r3 G3 h3 => ?_)
  obtain ⟨b3, hgg⟩ := h3
  rw [hgg]
  refine gw_if_eq  (q := 9) (t := 30) hc dX0_set_6 rfl (by decide) (by omega) (fun c6 => ?_) (fun c6 => ?_)
  · skip
    refine gw_iconst (q := 31) hc dX0_set_30 rfl ?_
    refine gw_istore_n (q := 32) hc dX0_set_31 rfl rfl xs_3 (by decide) (n2p xg_2 rfl) ?_
    refine gw_aload_n (q := 33) hc dX0_set_32 rfl rfl xg_0 ?_
    refine gw_iload_n (q := 34) hc dX0_set_33 rfl rfl xg_3 ?_
    refine gw_if_eq  (q := 37) (t := 41) hc dX0_set_34 rfl (by decide) (by omega) (fun c34 => ?_) (fun c34 => ?_)
    · skip
      refine gw_bipush (q := 43) hc dX0_set_41 rfl (by decide) ?_
      refine gw_iconst (q := 44) hc dX0_set_43 rfl ?_
      refine gw_callV (q := 47) (bc' := 0) (bs' := 0) (As := [_, _]) hc dX0_set_44 rfl q223 mw_X0_begun (rc_o hc cE_ED hC.1.1) rfl rfl (m_X0_begun_1 hC hW hn (by omega)) ⟨Nat.le_of_ble_eq_true rfl, Nat.le_of_ble_eq_true rfl⟩ (Nat.le_of_ble_eq_true rfl) (Nat.le_of_ble_eq_true rfl) (Nat.le_of_ble_eq_true rfl) (goI fun r44 G44 h44 => ?_)
      obtain ⟨er44, hcase⟩ := h44
      rw [er44]
      refine gw_istore (q := 49) hc dX0_set_47 rfl xs_4 (by decide) (n2p xg_3 rfl) ?_
      refine gw_iload (q := 51) hc dX0_set_49 rfl xg_4 ?_
      refine gw_if_ge  (q := 54) (t := 57) hc dX0_set_51 rfl (by decide) (by omega) (fun c51 => ?_) (fun c51 => ?_)
      · exfalso; omega
      · have hgg : G44 = G := by rcases hcase with ⟨-, q⟩ | ⟨q, -⟩; (exact q); omega
        rw [hgg]
        refine gw_iload (q := 56) hc dX0_set_54 rfl xg_4 ?_
        exact gw_iret hc dX0_set_56 ⟨_, rfl, Or.inl ⟨by rw [wnS_e, if_neg (by omega)]; omega, by rw [wnS_e, if_neg (by omega)], rfl⟩⟩
    · exfalso; omega
  · skip
    refine gw_iload_n (q := 10) hc dX0_set_9 rfl rfl xg_2 ?_
    refine gw_gets (q := 13) (v := .ref (X 1)) hc dX0_set_10 rfl q219 (by exact hc.2.2.2.2.2.2.2.2.2.1.2.2.2.1) (fun _ h => h) ?_
    refine gw_iload_n (q := 14) hc dX0_set_13 rfl rfl xg_1 ?_
    refine gw_tald (q := 15) hc dX0_set_14 rfl hc.2.2.2.2.2.2.2.2.2.1.2.2.2.2.1 ⟨by omega, by omega⟩ (by omega) ?_
    refine gw_gets (q := 18) (v := .ref (X 2)) hc dX0_set_15 rfl q221 (by exact hc.2.2.2.2.2.2.2.2.2.1.2.2.2.2.2.1) (fun _ h => h) ?_
    refine gw_iload_n (q := 19) hc dX0_set_18 rfl rfl xg_1 ?_
    refine gw_tald (q := 20) hc dX0_set_19 rfl hc.2.2.2.2.2.2.2.2.2.1.2.2.2.2.2.2.1 ⟨by omega, by omega⟩ (by omega) ?_
    refine gw_callS (q := 23) (bc' := 80) (bs' := 2730) (As := [_, _, _]) hc dX0_set_20 rfl q216 mw_X0_isIn rfl rfl (m_X0_isIn hv (by omega) (by omega)) ⟨Nat.le_of_ble_eq_true rfl, Nat.le_of_ble_eq_true rfl⟩ (Nat.le_of_ble_eq_true rfl) (Nat.le_of_ble_eq_true rfl) (Nat.le_of_ble_eq_true rfl) (goI fun r20 G20 h20 => ?_)
    obtain ⟨b20, hgg⟩ := h20
    rw [hgg]
    refine gw_if_eq  (q := 26) (t := 30) hc dX0_set_23 rfl (by decide) (by omega) (fun c23 => ?_) (fun c23 => ?_)
    · skip
      refine gw_iconst (q := 31) hc dX0_set_30 rfl ?_
      refine gw_istore_n (q := 32) hc dX0_set_31 rfl rfl xs_3 (by decide) (n2p xg_2 rfl) ?_
      refine gw_aload_n (q := 33) hc dX0_set_32 rfl rfl xg_0 ?_
      refine gw_iload_n (q := 34) hc dX0_set_33 rfl rfl xg_3 ?_
      refine gw_if_eq  (q := 37) (t := 41) hc dX0_set_34 rfl (by decide) (by omega) (fun c34 => ?_) (fun c34 => ?_)
      · skip
        refine gw_bipush (q := 43) hc dX0_set_41 rfl (by decide) ?_
        refine gw_iconst (q := 44) hc dX0_set_43 rfl ?_
        refine gw_callV (q := 47) (bc' := 0) (bs' := 0) (As := [_, _]) hc dX0_set_44 rfl q223 mw_X0_begun (rc_o hc cE_ED hC.1.1) rfl rfl (m_X0_begun_1 hC hW hn (by omega)) ⟨Nat.le_of_ble_eq_true rfl, Nat.le_of_ble_eq_true rfl⟩ (Nat.le_of_ble_eq_true rfl) (Nat.le_of_ble_eq_true rfl) (Nat.le_of_ble_eq_true rfl) (goI fun r44 G44 h44 => ?_)
        obtain ⟨er44, hcase⟩ := h44
        rw [er44]
        refine gw_istore (q := 49) hc dX0_set_47 rfl xs_4 (by decide) (n2p xg_3 rfl) ?_
        refine gw_iload (q := 51) hc dX0_set_49 rfl xg_4 ?_
        refine gw_if_ge  (q := 54) (t := 57) hc dX0_set_51 rfl (by decide) (by omega) (fun c51 => ?_) (fun c51 => ?_)
        · exfalso; omega
        · have hgg : G44 = G := by rcases hcase with ⟨-, q⟩ | ⟨q, -⟩; (exact q); omega
          rw [hgg]
          refine gw_iload (q := 56) hc dX0_set_54 rfl xg_4 ?_
          exact gw_iret hc dX0_set_56 ⟨_, rfl, Or.inl ⟨by rw [wnS_e, if_neg (by omega)]; omega, by rw [wnS_e, if_neg (by omega)], rfl⟩⟩
      · exfalso; omega
    · skip
      refine gw_iconst (q := 27) hc dX0_set_26 rfl ?_
      refine gw_goto (q := 31) hc dX0_set_27 (by decide) ?_
      refine gw_istore_n (q := 32) hc dX0_set_31 rfl rfl xs_3 (by decide) (n2p xg_2 rfl) ?_
      refine gw_aload_n (q := 33) hc dX0_set_32 rfl rfl xg_0 ?_
      refine gw_iload_n (q := 34) hc dX0_set_33 rfl rfl xg_3 ?_
      refine gw_if_eq  (q := 37) (t := 41) hc dX0_set_34 rfl (by decide) (by omega) (fun c34 => ?_) (fun c34 => ?_)
      · exfalso; omega
      · skip
        refine gw_iconst (q := 38) hc dX0_set_37 rfl ?_
        refine gw_goto (q := 43) hc dX0_set_38 (by decide) ?_
        refine gw_iconst (q := 44) hc dX0_set_43 rfl ?_
        refine gw_callV (q := 47) (bc' := 0) (bs' := 0) (As := [_, _]) hc dX0_set_44 rfl q223 mw_X0_begun (rc_o hc cE_ED hC.1.1) rfl rfl (m_X0_begun_1 hC hW hn (by omega)) ⟨Nat.le_of_ble_eq_true rfl, Nat.le_of_ble_eq_true rfl⟩ (Nat.le_of_ble_eq_true rfl) (Nat.le_of_ble_eq_true rfl) (Nat.le_of_ble_eq_true rfl) (goI fun r44 G44 h44 => ?_)
        obtain ⟨er44, hcase⟩ := h44
        rw [er44]
        refine gw_istore (q := 49) hc dX0_set_47 rfl xs_4 (by decide) (n2p xg_3 rfl) ?_
        refine gw_iload (q := 51) hc dX0_set_49 rfl xg_4 ?_
        refine gw_if_ge  (q := 54) (t := 57) hc dX0_set_51 rfl (by decide) (by omega) (fun c51 => ?_) (fun c51 => ?_)
        · obtain ⟨hw0, tg1, hf1, h2, A2, hC2⟩ : (0 : Int) = 0 ∧ ∃ tg1 : Nat → Nat, frE tg tg1 G G44 ∧ ∃ (h2 : Int → Nat) (A2 : Int → Nat → Nat), edC D X tg1 e (nid + 1) pl sv pd h2 A2 S (rmF S P kn) (rmK kn) L V Pd ln G44 := by rcases hcase with ⟨q, -⟩ | q; (exfalso; omega); exact q
          obtain ⟨hlt2, W2, hH2⟩ := ed_H hC2
          obtain ⟨mcm2, arm2, hmcm2, hMc2, hMa2, -⟩ := alR_P hH2.2.2.2.2.1
          obtain ⟨mcl2, arl2, hmcl2, hLc2, hLa2, -⟩ := alR_P hH2.2.2.2.2.2.1
          obtain ⟨g, hgs2, hg⟩ := hH2.2.2.2.1
          refine gw_aload_n (q := 58) hc dX0_set_57 rfl rfl xg_0 ?_
          refine gw_get (q := 61) hc dX0_set_58 rfl cE_ED 0 (by decide) q198 (fun _ h => h) hC2.1.1 rfl ?_
          refine gw_getN (q := 64) hc dX0_set_61 rfl cE_HO 0 (by decide) q143 (fun _ h => h) hH2.2.2.1 rfl ?_
          refine gw_iload_n (q := 65) hc dX0_set_64 rfl rfl xg_1 ?_
          refine gw_iald (q := 66) hc dX0_set_65 rfl hgs2 ⟨by omega, by omega⟩ (by omega) ?_
          rw [hg i (by omega) (by omega)]
          refine gw_istore (q := 68) hc dX0_set_66 rfl xs_5 (by decide) (n2p xg_4 rfl) ?_
          refine gw_aload_n (q := 69) hc dX0_set_68 rfl rfl xg_0 ?_
          refine gw_get (q := 72) hc dX0_set_69 rfl cE_ED 0 (by decide) q198 (fun _ h => h) hC2.1.1 rfl ?_
          refine gw_getN (q := 75) hc dX0_set_72 rfl cE_HO 0 (by decide) q143 (fun _ h => h) hH2.2.2.1 rfl ?_
          refine gw_iload_n (q := 76) hc dX0_set_75 rfl rfl xg_1 ?_
          refine gw_iload_n (q := 77) hc dX0_set_76 rfl rfl xg_2 ?_
          refine gw_iast (q := 78) hc dX0_set_77 rfl hgs2 ⟨by omega, by omega⟩ (by omega) ?_
          have hH3 := hs_upS (S' := fu S i v) (g := fu g i v) hH2 (fun j a b c => fu_n (by omega)) (fun j a b => by by_cases q : j = i; (rw [q, fu_s, fu_s]); (rw [fu_n q, fu_n q, hg j a b]))
          have ht3 := tgR_upH (a := A2 (-1) 1) (e := iA D 6 (fu g i v)) (tgR_rf (tg := tg1) (hid := h2 (-1)) (G := G44)) (by rw [hH2.2.1 _ us_1]; omega) (nn_s hgs2)
          refine gw_iload (q := 80) hc dX0_set_78 rfl xg_5 ?_
          exact gw_iret hc dX0_set_80 ⟨_, rfl, Or.inr ⟨by rw [wnS_e, if_pos (by omega)], rfl, tg1, frE_tr hf1 (frE_of ht3 (by omega)), pl, sv, pd, _, _, ed_now hC2 ht3 hH3 rfl (by omega)⟩⟩
        · exfalso; omega

