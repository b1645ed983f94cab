/-! ===== THE CLASS: changes ===== -/
set_option maxRecDepth 100000
theorem loC_new {S : Int → Int} {m w : Int} {nd : Nat} (h : S 8 = nd) : loC (loF S m w) nd = loO w m 0 := by
  unfold loC loF lo3
  have e : ∀ i v : Int, i ≠ 8 → fu (fu (fu (fu S (102 + 3 * (nd : Int)) m) (102 + 3 * (nd : Int) + 1) w) (102 + 3 * (nd : Int) + 2) 0) 8 v i = fu (fu (fu S (102 + 3 * (nd : Int)) m) (102 + 3 * (nd : Int) + 1) w) (102 + 3 * (nd : Int) + 2) 0 i := fun i v hi => fu_n hi
  rw [h, e _ _ (by omega), e _ _ (by omega), e _ _ (by omega), fu_s]
  have e1 : fu (fu (fu S (102 + 3 * (nd : Int)) m) (102 + 3 * (nd : Int) + 1) w) (102 + 3 * (nd : Int) + 2) 0 (102 + 3 * (nd : Int) + 1) = w := by rw [fu_n (by omega), fu_s]
  have e2 : fu (fu (fu S (102 + 3 * (nd : Int)) m) (102 + 3 * (nd : Int) + 1) w) (102 + 3 * (nd : Int) + 2) 0 (102 + 3 * (nd : Int)) = m := by rw [fu_n (by omega), fu_n (by omega), fu_s]
  rw [e1, e2]
theorem loF_m {S : Int → Int} {m w : Int} {nd : Nat} (h : S 8 = nd) : loF S m w (102 + 3 * (nd : Int)) = m := by
  unfold loF lo3
  rw [h, fu_n (by omega), fu_n (by omega), fu_n (by omega), fu_s]
theorem loF_8 {S : Int → Int} {m w : Int} (h : 0 ≤ S 8) : loF S m w 8 = S 8 + 1 := by
  unfold loF lo3
  rw [fu_s, fu_n (by omega), fu_n (by omega), fu_n (by omega)]
theorem ch_n {ch : Int} {S P : Int → Int} {kn : Int} {nid : Nat} {P2 : Int → Int} {kn2 : Int} {nid2 : Nat} (h : chR ch S P kn nid P2 kn2 nid2) : nid2 ≤ nid + 1 := by
  rcases h with ⟨-, -, -, h⟩ | ⟨-, -, -, h⟩ <;> omega
theorem ch_c {ch : Int} {S P : Int → Int} {kn : Int} {nid : Nat} {P2 : Int → Int} {kn2 : Int} {nid2 : Nat} (h : chR ch S P kn nid P2 kn2 nid2) : ch = 0 ∨ ch = 1 := by
  rcases h with ⟨h, -⟩ | ⟨h, -⟩ <;> omega
theorem bi_E {S : Int → Int} {N : Int} (h : rowW S N) : 0 ≤ S 7 := (rw_7 h).1

theorem mw_X0_record : mV "EnergyDiscs" yX0_record cX0_record 1 none 0 := ⟨⟨rfl, by decide +kernel, by decide +kernel, by decide +kernel⟩, q229, qs1, q73, q230⟩
set_option maxHeartbeats 4000000 in
theorem m_X0_begun_1 {l : Launch} {D : va_G} {X : Nat → Nat} {b0 : Nat} {tg : Nat → Nat} {e nid pl sv pd : Nat} {h : Int → Nat} {A : Int → Nat → Nat} {S P L V Pd : Int → Int} {kn ln N : Int} {G : gM} (hC : edC D X tg e nid pl sv pd h A S P kn L V Pd ln G) (hW : rowW S N) (hn : nid < 890) {er : Int} (her : rI er) : gMet l D X b0 yX0_begun cX0_begun 3 (some FieldType.int) (rmE 11 80 2730) [.ref e, .int (iI er), .int (iI 1)] G (pI fun r G' => r = er ∧ ((er ≠ 0 ∧ G' = G) ∨ (er = 0 ∧ ∃ tg' : Nat → Nat, frE tg tg' G G' ∧ ∃ (h2 : Int → Nat) (A2 : Int → Nat → Nat), edC D X tg' e (nid + 1) pl sv pd h2 A2 S (rmF S P kn) (rmK kn) L V Pd ln G'))) := by
  refine gm_start (own := "EnergyDiscs") (lv := [some (.ref e), some (.int (iI er)), some (.int (iI 1))]) (by decide +kernel) rfl (Nat.le_of_ble_eq_true rfl) rfl (fun p_ e_ s_ m_ args_ below_ meth_ c_ hc hnm => ?_)
  obtain ⟨hlt, W, hH⟩ := ed_H hC
  obtain ⟨mcm, arm, hmcm, hMc, hMa, -⟩ := alR_P hH.2.2.2.2.1
  obtain ⟨mcl, arl, hmcl, hLc, hLa, -⟩ := alR_P hH.2.2.2.2.2.1
  have hb := hH.1
  refine gw_iload_n (q := 1) hc dX0_begun_0 rfl rfl xg_1 ?_
  refine gw_if_ne  (q := 4) (t := 12) hc dX0_begun_1 rfl (by decide) (by omega) (fun c1 => ?_) (fun c1 => ?_)
  · skip
    refine gw_iload_n (q := 13) hc dX0_begun_12 rfl rfl xg_1 ?_
    exact gw_iret hc dX0_begun_13 ⟨_, rfl, ⟨rfl, Or.inl ⟨c1, rfl⟩⟩⟩
  · skip
    refine gw_iload_n (q := 5) hc dX0_begun_4 rfl rfl xg_2 ?_
    refine gw_if_eq  (q := 8) (t := 12) hc dX0_begun_5 rfl (by decide) (by omega) (fun c5 => ?_) (fun c5 => ?_)
    · exfalso; omega
    · skip
      refine gw_aload_n (q := 9) hc dX0_begun_8 rfl rfl xg_0 ?_
      refine gw_callV (q := 12) (bc' := 0) (bs' := 0) (As := []) hc dX0_begun_9 rfl q227 mw_X0_record (rc_o hc cE_ED hC.1.1) rfl rfl (m_X0_record hC hW (by omega)) ⟨Nat.le_of_ble_eq_true rfl, Nat.le_of_ble_eq_true rfl⟩ (Nat.le_of_ble_eq_true rfl) (Nat.le_of_ble_eq_true rfl) (Nat.le_of_ble_eq_true rfl) (goV fun G9 h9 => ?_)
      refine gw_iload_n (q := 13) hc dX0_begun_12 rfl rfl xg_1 ?_
      exact gw_iret hc dX0_begun_13 ⟨_, rfl, ⟨rfl, Or.inr ⟨c1, h9⟩⟩⟩

set_option maxHeartbeats 4000000 in
theorem m_X0_begun_0 {l : Launch} {D : va_G} {X : Nat → Nat} {b0 : Nat} {tg : Nat → Nat} {e nid pl sv pd : Nat} {h : Int → Nat} {A : Int → Nat → Nat} {S P L V Pd : Int → Int} {kn ln N : Int} {G : gM} (hC : edC D X tg e nid pl sv pd h A S P kn L V Pd ln G) (hW : rowW S N) (hn : nid < 890) {er : Int} (her : rI er) : gMet l D X b0 yX0_begun cX0_begun 3 (some FieldType.int) (rmE 11 80 2730) [.ref e, .int (iI er), .int (iI 0)] G (pI fun r G' => r = er ∧ ((er ≠ 0 ∧ G' = G) ∨ (er = 0 ∧ ∃ tg' : Nat → Nat, frE tg tg' G G' ∧ ∃ (h2 : Int → Nat) (A2 : Int → Nat → Nat), edC D X tg' e nid pl sv pd h2 A2 S P kn L V Pd ln G'))) := by
  refine gm_start (own := "EnergyDiscs") (lv := [some (.ref e), some (.int (iI er)), some (.int (iI 0))]) (by decide +kernel) rfl (Nat.le_of_ble_eq_true rfl) rfl (fun p_ e_ s_ m_ args_ below_ meth_ c_ hc hnm => ?_)
  obtain ⟨hlt, W, hH⟩ := ed_H hC
  obtain ⟨mcm, arm, hmcm, hMc, hMa, -⟩ := alR_P hH.2.2.2.2.1
  obtain ⟨mcl, arl, hmcl, hLc, hLa, -⟩ := alR_P hH.2.2.2.2.2.1
  have hb := hH.1
  refine gw_iload_n (q := 1) hc dX0_begun_0 rfl rfl xg_1 ?_
  refine gw_if_ne  (q := 4) (t := 12) hc dX0_begun_1 rfl (by decide) (by omega) (fun c1 => ?_) (fun c1 => ?_)
  · skip
    refine gw_iload_n (q := 13) hc dX0_begun_12 rfl rfl xg_1 ?_
    exact gw_iret hc dX0_begun_13 ⟨_, rfl, ⟨rfl, Or.inl ⟨c1, rfl⟩⟩⟩
  · skip
    refine gw_iload_n (q := 5) hc dX0_begun_4 rfl rfl xg_2 ?_
    refine gw_if_eq  (q := 8) (t := 12) hc dX0_begun_5 rfl (by decide) (by omega) (fun c5 => ?_) (fun c5 => ?_)
    · skip
      refine gw_iload_n (q := 13) hc dX0_begun_12 rfl rfl xg_1 ?_
      exact gw_iret hc dX0_begun_13 ⟨_, rfl, ⟨rfl, Or.inr ⟨c1, tg, frE_rf, h, A, hC⟩⟩⟩
    · exfalso; omega

theorem m_X0_begun {l : Launch} {D : va_G} {X : Nat → Nat} {b0 : Nat} {tg : Nat → Nat} {e nid pl sv pd : Nat} {h : Int → Nat} {A : Int → Nat → Nat} {S P L V Pd : Int → Int} {kn ln N : Int} {G : gM} (hC : edC D X tg e nid pl sv pd h A S P kn L V Pd ln G) (hW : rowW S N) (hn : nid < 890) {P2 : Int → Int} {kn2 : Int} {nid2 : Nat} {ch : Int} (hch : chR ch S P kn nid P2 kn2 nid2) {er : Int} (her : rI er) : gMet l D X b0 yX0_begun cX0_begun 3 (some FieldType.int) (rmE 11 80 2730) [.ref e, .int (iI er), .int (iI ch)] G (pI fun r G' => r = er ∧ ((er ≠ 0 ∧ G' = G) ∨ (er = 0 ∧ ∃ tg' : Nat → Nat, frE tg tg' G G' ∧ ∃ (h2 : Int → Nat) (A2 : Int → Nat → Nat), edC D X tg' e nid2 pl sv pd h2 A2 S P2 kn2 L V Pd ln G'))) := by
  rcases hch with ⟨rfl, rfl, rfl, rfl⟩ | ⟨rfl, rfl, rfl, rfl⟩
  · exact m_X0_begun_1 hC hW hn her
  · exact m_X0_begun_0 hC hW hn her
theorem mw_X0_isMeter : mV "EnergyDiscs" yX0_isMeter cX0_isMeter 2 (some FieldType.boolean) 1 := ⟨⟨rfl, by decide +kernel, by decide +kernel, by decide +kernel⟩, q550, qs8, q73, q551⟩
set_option maxHeartbeats 4000000 in
theorem m_X0_whyNotMeter {l : Launch} {D : va_G} {X : Nat → Nat} {b0 : Nat} {tg : Nat → Nat} {e nid pl sv pd : Nat} {h : Int → Nat} {A : Int → Nat → Nat} {S P L V Pd : Int → Int} {kn ln N : Int} {G : gM} (hC : edC D X tg e nid pl sv pd h A S P kn L V Pd ln G) (hW : rowW S N) {t : Int} (ht : rI t) : gMet l D X b0 yX0_whyNotMeter cX0_whyNotMeter 2 (some FieldType.int) (rmE 2 0 0) [.ref e, .int (iI t)] G (eI (wnM S t) G) := by
  refine gm_start (own := "EnergyDiscs") (lv := [some (.ref e), some (.int (iI t))]) (by decide +kernel) rfl (Nat.le_of_ble_eq_true rfl) rfl (fun p_ e_ s_ m_ args_ below_ meth_ c_ hc hnm => ?_)
  obtain ⟨hlt, W, hH⟩ := ed_H hC
  obtain ⟨mcm, arm, hmcm, hMc, hMa, -⟩ := alR_P hH.2.2.2.2.1
  obtain ⟨mcl, arl, hmcl, hLc, hLa, -⟩ := alR_P hH.2.2.2.2.2.1
  have hb := hH.1
  refine gw_aload_n (q := 1) hc dX0_whyNotMeter_0 rfl rfl xg_0 ?_
  refine gw_get (q := 4) hc dX0_whyNotMeter_1 rfl cE_ED 0 (by decide) q198 (fun _ h => h) hC.1.1 rfl ?_
  refine gw_getN (q := 7) hc dX0_whyNotMeter_4 rfl cE_HO 1 (by decide) q145 (fun _ h => h) hH.2.2.1 rfl ?_
  refine gw_callF (q := 12) (bc' := 0) (bs' := 0) (As := []) hc dX0_whyNotMeter_7 rfl cE_AL q540 mf_J2_isEmpty_7 rfl rfl (m_J2_isEmpty hMc (by omega)) (rc_o hc cE_AL hMc) ⟨Nat.le_of_ble_eq_true rfl, Nat.le_of_ble_eq_true rfl⟩ (Nat.le_of_ble_eq_true rfl) (Nat.le_of_ble_eq_true rfl) (Nat.le_of_ble_eq_true rfl) (goI fun r7 G7 h7 => ?_)
  obtain ⟨b7, hgg⟩ := h7
  rw [hgg]
  refine gw_if_ne  (q := 15) (t := 27) hc dX0_whyNotMeter_12 rfl (by decide) (by omega) (fun c12 => ?_) (fun c12 => ?_)
  · skip
    refine gw_aload_n (q := 28) hc dX0_whyNotMeter_27 rfl rfl xg_0 ?_
    refine gw_get (q := 31) hc dX0_whyNotMeter_28 rfl cE_ED 0 (by decide) q198 (fun _ h => h) hC.1.1 rfl ?_
    refine gw_getN (q := 34) hc dX0_whyNotMeter_31 rfl cE_HO 1 (by decide) q145 (fun _ h => h) hH.2.2.1 rfl ?_
    refine gw_callF (q := 39) (bc' := 0) (bs' := 0) (As := []) hc dX0_whyNotMeter_34 rfl cE_AL q232 mf_J2_size_7 rfl rfl (m_J2_size hMc) (rc_o hc cE_AL hMc) ⟨Nat.le_of_ble_eq_true rfl, Nat.le_of_ble_eq_true rfl⟩ (Nat.le_of_ble_eq_true rfl) (Nat.le_of_ble_eq_true rfl) (Nat.le_of_ble_eq_true rfl) (goI fun r34 G34 h34 => ?_)
    obtain ⟨er34, hgg⟩ := h34
    rw [hgg, er34]
    refine gw_bipush (q := 41) hc dX0_whyNotMeter_39 rfl (by decide) ?_
    refine gw_icmp_ne  (q := 44) (t := 49) hc dX0_whyNotMeter_41 rfl (by decide) (by omega) (by omega) (fun c41 => ?_) (fun c41 => ?_)
    · skip
      refine gw_iconst (q := 50) hc dX0_whyNotMeter_49 rfl ?_
      exact gw_iret hc dX0_whyNotMeter_50 ⟨_, rfl, ⟨by unfold wnM; (repeat' split) <;> omega, rfl⟩⟩
    · skip
      refine gw_bipush (q := 46) hc dX0_whyNotMeter_44 rfl (by decide) ?_
      refine gw_goto (q := 50) hc dX0_whyNotMeter_46 (by decide) ?_
      exact gw_iret hc dX0_whyNotMeter_50 ⟨_, rfl, ⟨by unfold wnM; (repeat' split) <;> omega, rfl⟩⟩
  · skip
    refine gw_aload_n (q := 16) hc dX0_whyNotMeter_15 rfl rfl xg_0 ?_
    refine gw_iload_n (q := 17) hc dX0_whyNotMeter_16 rfl rfl xg_1 ?_
    refine gw_callV (q := 20) (bc' := 0) (bs' := 0) (As := [_]) hc dX0_whyNotMeter_17 rfl q548 mw_X0_isMeter (rc_o hc cE_ED hC.1.1) rfl rfl (m_X0_isMeter hC ht) ⟨Nat.le_of_ble_eq_true rfl, Nat.le_of_ble_eq_true rfl⟩ (Nat.le_of_ble_eq_true rfl) (Nat.le_of_ble_eq_true rfl) (Nat.le_of_ble_eq_true rfl) (goI fun r17 G17 h17 => ?_)
    obtain ⟨b17, hgg⟩ := h17
    rw [hgg]
    refine gw_if_ne  (q := 23) (t := 27) hc dX0_whyNotMeter_20 rfl (by decide) (by omega) (fun c20 => ?_) (fun c20 => ?_)
    · skip
      refine gw_aload_n (q := 28) hc dX0_whyNotMeter_27 rfl rfl xg_0 ?_
      refine gw_get (q := 31) hc dX0_whyNotMeter_28 rfl cE_ED 0 (by decide) q198 (fun _ h => h) hC.1.1 rfl ?_
      refine gw_getN (q := 34) hc dX0_whyNotMeter_31 rfl cE_HO 1 (by decide) q145 (fun _ h => h) hH.2.2.1 rfl ?_
      refine gw_callF (q := 39) (bc' := 0) (bs' := 0) (As := []) hc dX0_whyNotMeter_34 rfl cE_AL q232 mf_J2_size_7 rfl rfl (m_J2_size hMc) (rc_o hc cE_AL hMc) ⟨Nat.le_of_ble_eq_true rfl, Nat.le_of_ble_eq_true rfl⟩ (Nat.le_of_ble_eq_true rfl) (Nat.le_of_ble_eq_true rfl) (Nat.le_of_ble_eq_true rfl) (goI fun r34 G34 h34 => ?_)
      obtain ⟨er34, hgg⟩ := h34
      rw [hgg, er34]
      refine gw_bipush (q := 41) hc dX0_whyNotMeter_39 rfl (by decide) ?_
      refine gw_icmp_ne  (q := 44) (t := 49) hc dX0_whyNotMeter_41 rfl (by decide) (by omega) (by omega) (fun c41 => ?_) (fun c41 => ?_)
      · skip
        refine gw_iconst (q := 50) hc dX0_whyNotMeter_49 rfl ?_
        exact gw_iret hc dX0_whyNotMeter_50 ⟨_, rfl, ⟨by unfold wnM; (repeat' split) <;> omega, rfl⟩⟩
      · skip
        refine gw_bipush (q := 46) hc dX0_whyNotMeter_44 rfl (by decide) ?_
        refine gw_goto (q := 50) hc dX0_whyNotMeter_46 (by decide) ?_
        exact gw_iret hc dX0_whyNotMeter_50 ⟨_, rfl, ⟨by unfold wnM; (repeat' split) <;> omega, rfl⟩⟩
    · skip
      refine gw_iconst (q := 24) hc dX0_whyNotMeter_23 rfl ?_
      refine gw_goto (q := 50) hc dX0_whyNotMeter_24 (by decide) ?_
      exact gw_iret hc dX0_whyNotMeter_50 ⟨_, rfl, ⟨by unfold wnM; (repeat' split) <;> omega, rfl⟩⟩

set_option maxHeartbeats 4000000 in
theorem m_X0_whyNotLoad {l : Launch} {D : va_G} {X : Nat → Nat} {b0 : Nat} {tg : Nat → Nat} {e nid pl sv pd : Nat} {h : Int → Nat} {A : Int → Nat → Nat} {S P L V Pd : Int → Int} {kn ln N : Int} {G : gM} (hC : edC D X tg e nid pl sv pd h A S P kn L V Pd ln G) (hW : rowW S N) {m w : Int} (hm : rI m) (hw : rI w) : gMet l D X b0 yX0_whyNotLoad cX0_whyNotLoad 3 (some FieldType.int) (rmE 2 0 0) [.ref e, .int (iI m), .int (iI w)] G (eI (wnL S m w) G) := by
  refine gm_start (own := "EnergyDiscs") (lv := [some (.ref e), some (.int (iI m)), some (.int (iI w))]) (by decide +kernel) rfl (Nat.le_of_ble_eq_true rfl) rfl (fun p_ e_ s_ m_ args_ below_ meth_ c_ hc hnm => ?_)
  obtain ⟨hlt, W, hH⟩ := ed_H hC
  obtain ⟨mcm, arm, hmcm, hMc, hMa, -⟩ := alR_P hH.2.2.2.2.1
  obtain ⟨mcl, arl, hmcl, hLc, hLa, -⟩ := alR_P hH.2.2.2.2.2.1
  have hb := hH.1
  refine gw_aload_n (q := 1) hc dX0_whyNotLoad_0 rfl rfl xg_0 ?_
  refine gw_iload_n (q := 2) hc dX0_whyNotLoad_1 rfl rfl xg_1 ?_
  refine gw_callV (q := 5) (bc' := 0) (bs' := 0) (As := [_]) hc dX0_whyNotLoad_2 rfl q548 mw_X0_isMeter (rc_o hc cE_ED hC.1.1) rfl rfl (m_X0_isMeter hC hm) ⟨Nat.le_of_ble_eq_true rfl, Nat.le_of_ble_eq_true rfl⟩ (Nat.le_of_ble_eq_true rfl) (Nat.le_of_ble_eq_true rfl) (Nat.le_of_ble_eq_true rfl) (goI fun r2 G2 h2 => ?_)
  obtain ⟨b2, hgg⟩ := h2
  rw [hgg]
  refine gw_if_ne  (q := 8) (t := 12) hc dX0_whyNotLoad_5 rfl (by decide) (by omega) (fun c5 => ?_) (fun c5 => ?_)
  · skip
    refine gw_iload_n (q := 13) hc dX0_whyNotLoad_12 rfl rfl xg_2 ?_
    refine gw_iconst (q := 14) hc dX0_whyNotLoad_13 rfl ?_
    refine gw_sipush (q := 17) hc dX0_whyNotLoad_14 rfl (by decide) ?_
    refine gw_callS (q := 20) (bc' := 0) (bs' := 0) (As := [_, _, _]) hc dX0_whyNotLoad_17 rfl q216 mw_X0_isIn rfl rfl (m_X0_isIn hw (by omega) (by omega)) ⟨Nat.le_of_ble_eq_true rfl, Nat.le_of_ble_eq_true rfl⟩ (Nat.le_of_ble_eq_true rfl) (Nat.le_of_ble_eq_true rfl) (Nat.le_of_ble_eq_true rfl) (goI fun r17 G17 h17 => ?_)
    obtain ⟨b17, hgg⟩ := h17
    rw [hgg]
    refine gw_if_ne  (q := 23) (t := 28) hc dX0_whyNotLoad_20 rfl (by decide) (by omega) (fun c20 => ?_) (fun c20 => ?_)
    · skip
      refine gw_aload_n (q := 29) hc dX0_whyNotLoad_28 rfl rfl xg_0 ?_
      refine gw_get (q := 32) hc dX0_whyNotLoad_29 rfl cE_ED 0 (by decide) q198 (fun _ h => h) hC.1.1 rfl ?_
      refine gw_getN (q := 35) hc dX0_whyNotLoad_32 rfl cE_HO 2 (by decide) q147 (fun _ h => h) hH.2.2.1 rfl ?_
      refine gw_callF (q := 40) (bc' := 0) (bs' := 0) (As := []) hc dX0_whyNotLoad_35 rfl cE_AL q232 mf_J2_size_7 rfl rfl (m_J2_size hLc) (rc_o hc cE_AL hLc) ⟨Nat.le_of_ble_eq_true rfl, Nat.le_of_ble_eq_true rfl⟩ (Nat.le_of_ble_eq_true rfl) (Nat.le_of_ble_eq_true rfl) (Nat.le_of_ble_eq_true rfl) (goI fun r35 G35 h35 => ?_)
      obtain ⟨er35, hgg⟩ := h35
      rw [hgg, er35]
      refine gw_bipush (q := 42) hc dX0_whyNotLoad_40 rfl (by decide) ?_
      refine gw_icmp_ne  (q := 45) (t := 50) hc dX0_whyNotLoad_42 rfl (by decide) (by omega) (by omega) (fun c42 => ?_) (fun c42 => ?_)
      · skip
        refine gw_iconst (q := 51) hc dX0_whyNotLoad_50 rfl ?_
        exact gw_iret hc dX0_whyNotLoad_51 ⟨_, rfl, ⟨by unfold wnL; (repeat' split) <;> omega, rfl⟩⟩
      · skip
        refine gw_bipush (q := 47) hc dX0_whyNotLoad_45 rfl (by decide) ?_
        refine gw_goto (q := 51) hc dX0_whyNotLoad_47 (by decide) ?_
        exact gw_iret hc dX0_whyNotLoad_51 ⟨_, rfl, ⟨by unfold wnL; (repeat' split) <;> omega, rfl⟩⟩
    · skip
      refine gw_bipush (q := 25) hc dX0_whyNotLoad_23 rfl (by decide) ?_
      refine gw_goto (q := 51) hc dX0_whyNotLoad_25 (by decide) ?_
      exact gw_iret hc dX0_whyNotLoad_51 ⟨_, rfl, ⟨by unfold wnL; (repeat' split) <;> omega, rfl⟩⟩
  · skip
    refine gw_iconst (q := 9) hc dX0_whyNotLoad_8 rfl ?_
    refine gw_goto (q := 51) hc dX0_whyNotLoad_9 (by decide) ?_
    exact gw_iret hc dX0_whyNotLoad_51 ⟨_, rfl, ⟨by unfold wnL; (repeat' split) <;> omega, rfl⟩⟩

theorem mw_X0_meterAt : mV "EnergyDiscs" yX0_meterAt cX0_meterAt 2 (some (FieldType.object "EnergyDiscs$Meter")) 1 := ⟨⟨rfl, by decide +kernel, by decide +kernel, by decide +kernel⟩, q601, qs15, q73, q602⟩
set_option maxHeartbeats 4000000 in
theorem m_X0_whyNotTamper {l : Launch} {D : va_G} {X : Nat → Nat} {b0 : Nat} {tg : Nat → Nat} {e nid pl sv pd : Nat} {h : Int → Nat} {A : Int → Nat → Nat} {S P L V Pd : Int → Int} {kn ln N : Int} {G : gM} (hC : edC D X tg e nid pl sv pd h A S P kn L V Pd ln G) (hW : rowW S N) {m : Int} (hm : rI m) : gMet l D X b0 yX0_whyNotTamper cX0_whyNotTamper 2 (some FieldType.int) (rmE 4 0 0) [.ref e, .int (iI m)] G (eI (wnT S m) G) := by
  refine gm_start (own := "EnergyDiscs") (lv := [some (.ref e), some (.int (iI m))]) (by decide +kernel) rfl (Nat.le_of_ble_eq_true rfl) rfl (fun p_ e_ s_ m_ args_ below_ meth_ c_ hc hnm => ?_)
  obtain ⟨hlt, W, hH⟩ := ed_H hC
  obtain ⟨mcm, arm, hmcm, hMc, hMa, -⟩ := alR_P hH.2.2.2.2.1
  obtain ⟨mcl, arl, hmcl, hLc, hLa, -⟩ := alR_P hH.2.2.2.2.2.1
  have hb := hH.1
  refine gw_aload_n (q := 1) hc dX0_whyNotTamper_0 rfl rfl xg_0 ?_
  refine gw_iload_n (q := 2) hc dX0_whyNotTamper_1 rfl rfl xg_1 ?_
  refine gw_callV (q := 5) (bc' := 0) (bs' := 0) (As := [_]) hc dX0_whyNotTamper_2 rfl q548 mw_X0_isMeter (rc_o hc cE_ED hC.1.1) rfl rfl (m_X0_isMeter hC hm) ⟨Nat.le_of_ble_eq_true rfl, Nat.le_of_ble_eq_true rfl⟩ (Nat.le_of_ble_eq_true rfl) (Nat.le_of_ble_eq_true rfl) (Nat.le_of_ble_eq_true rfl) (goI fun r2 G2 h2 => ?_)
  obtain ⟨b2, hgg⟩ := h2
  rw [hgg]
  refine gw_if_ne  (q := 8) (t := 12) hc dX0_whyNotTamper_5 rfl (by decide) (by omega) (fun c5 => ?_) (fun c5 => ?_)
  · obtain ⟨k, rfl⟩ : ∃ k : Nat, m = k := ⟨m.toNat, by omega⟩
    have hmt := (hH.2.2.2.2.2.2.1 k (by omega)).1
    have hbk := rw_b hW k (by omega)
    refine gw_aload_n (q := 13) hc dX0_whyNotTamper_12 rfl rfl xg_0 ?_
    refine gw_iload_n (q := 14) hc dX0_whyNotTamper_13 rfl rfl xg_1 ?_
    refine gw_callV (q := 17) (bc' := 0) (bs' := 0) (As := [_]) hc dX0_whyNotTamper_14 rfl q599 mw_X0_meterAt (rc_o hc cE_ED hC.1.1) rfl rfl (m_X0_meterAt hC (by omega)) ⟨Nat.le_of_ble_eq_true rfl, Nat.le_of_ble_eq_true rfl⟩ (Nat.le_of_ble_eq_true rfl) (Nat.le_of_ble_eq_true rfl) (Nat.le_of_ble_eq_true rfl) (goA fun r14 G14 h14 => ?_)
    obtain ⟨er14, hgg⟩ := h14
    rw [hgg, er14]
    refine gw_getN (q := 20) hc dX0_whyNotTamper_17 rfl cE_ME 15 (by decide) q450 (fun _ h => h) hmt rfl ?_
    refine gw_if_eq  (q := 23) (t := 28) hc dX0_whyNotTamper_20 rfl (by decide) (by omega) (fun c20 => ?_) (fun c20 => ?_)
    · skip
      refine gw_iconst (q := 29) hc dX0_whyNotTamper_28 rfl ?_
      exact gw_iret hc dX0_whyNotTamper_29 ⟨_, rfl, ⟨by unfold wnT; (repeat' split) <;> omega, rfl⟩⟩
    · skip
      refine gw_bipush (q := 25) hc dX0_whyNotTamper_23 rfl (by decide) ?_
      refine gw_goto (q := 29) hc dX0_whyNotTamper_25 (by decide) ?_
      exact gw_iret hc dX0_whyNotTamper_29 ⟨_, rfl, ⟨by unfold wnT; (repeat' split) <;> omega, rfl⟩⟩
  · skip
    refine gw_iconst (q := 9) hc dX0_whyNotTamper_8 rfl ?_
    refine gw_goto (q := 29) hc dX0_whyNotTamper_9 (by decide) ?_
    exact gw_iret hc dX0_whyNotTamper_29 ⟨_, rfl, ⟨by unfold wnT; (repeat' split) <;> omega, rfl⟩⟩

set_option maxHeartbeats 4000000 in
theorem m_X0_whyNotPass {l : Launch} {D : va_G} {X : Nat → Nat} {b0 : Nat} {tg : Nat → Nat} {e nid pl sv pd : Nat} {h : Int → Nat} {A : Int → Nat → Nat} {S P L V Pd : Int → Int} {kn ln N : Int} {G : gM} (hC : edC D X tg e nid pl sv pd h A S P kn L V Pd ln G) (hW : rowW S N) {t : Int} (ht : rI t) : gMet l D X b0 yX0_whyNotPass cX0_whyNotPass 2 (some FieldType.int) (rmE 1 0 0) [.ref e, .int (iI t)] G (eI (wnP S t) G) := by
  refine gm_start (own := "EnergyDiscs") (lv := [some (.ref e), some (.int (iI t))]) (by decide +kernel) rfl (Nat.le_of_ble_eq_true rfl) rfl (fun p_ e_ s_ m_ args_ below_ meth_ c_ hc hnm => ?_)
  obtain ⟨hlt, W, hH⟩ := ed_H hC
  obtain ⟨mcm, arm, hmcm, hMc, hMa, -⟩ := alR_P hH.2.2.2.2.1
  obtain ⟨mcl, arl, hmcl, hLc, hLa, -⟩ := alR_P hH.2.2.2.2.2.1
  have hb := hH.1
  have h6 := rw_6 hW
  refine gw_iload_n (q := 1) hc dX0_whyNotPass_0 rfl rfl xg_1 ?_
  refine gw_iconst (q := 2) hc dX0_whyNotPass_1 rfl ?_
  refine gw_sipush (q := 5) hc dX0_whyNotPass_2 rfl (by decide) ?_
  refine gw_callS (q := 8) (bc' := 0) (bs' := 0) (As := [_, _, _]) hc dX0_whyNotPass_5 rfl q216 mw_X0_isIn rfl rfl (m_X0_isIn ht (by omega) (by omega)) ⟨Nat.le_of_ble_eq_true rfl, Nat.le_of_ble_eq_true rfl⟩ (Nat.le_of_ble_eq_true rfl) (Nat.le_of_ble_eq_true rfl) (Nat.le_of_ble_eq_true rfl) (goI fun r5 G5 h5 => ?_)
  obtain ⟨b5, hgg⟩ := h5
  rw [hgg]
  refine gw_if_ne  (q := 11) (t := 16) hc dX0_whyNotPass_8 rfl (by decide) (by omega) (fun c8 => ?_) (fun c8 => ?_)
  · skip
    refine gw_aload_n (q := 17) hc dX0_whyNotPass_16 rfl rfl xg_0 ?_
    refine gw_get (q := 20) hc dX0_whyNotPass_17 rfl cE_ED 0 (by decide) q198 (fun _ h => h) hC.1.1 rfl ?_
    refine gw_getN (q := 23) hc dX0_whyNotPass_20 rfl cE_HO 3 (by decide) q149 (fun _ h => h) hH.2.2.1 rfl ?_
    refine gw_iload_n (q := 24) hc dX0_whyNotPass_23 rfl rfl xg_1 ?_
    refine gw_iadd (q := 25) hc dX0_whyNotPass_24 rfl ?_
    refine gw_ldc (q := 27) hc dX0_whyNotPass_25 rfl (v := 99999) q636 (by decide) ?_
    refine gw_icmp_le  (q := 30) (t := 35) hc dX0_whyNotPass_27 rfl (by decide) (by omega) (by omega) (fun c27 => ?_) (fun c27 => ?_)
    · skip
      refine gw_iconst (q := 36) hc dX0_whyNotPass_35 rfl ?_
      exact gw_iret hc dX0_whyNotPass_36 ⟨_, rfl, ⟨by unfold wnP; (repeat' split) <;> omega, rfl⟩⟩
    · skip
      refine gw_bipush (q := 32) hc dX0_whyNotPass_30 rfl (by decide) ?_
      refine gw_goto (q := 36) hc dX0_whyNotPass_32 (by decide) ?_
      exact gw_iret hc dX0_whyNotPass_36 ⟨_, rfl, ⟨by unfold wnP; (repeat' split) <;> omega, rfl⟩⟩
  · skip
    refine gw_bipush (q := 13) hc dX0_whyNotPass_11 rfl (by decide) ?_
    refine gw_goto (q := 36) hc dX0_whyNotPass_13 (by decide) ?_
    exact gw_iret hc dX0_whyNotPass_36 ⟨_, rfl, ⟨by unfold wnP; (repeat' split) <;> omega, rfl⟩⟩

theorem mw_X0_whyNotMeter : mV "EnergyDiscs" yX0_whyNotMeter cX0_whyNotMeter 2 (some FieldType.int) 1 := ⟨⟨rfl, by decide +kernel, by decide +kernel, by decide +kernel⟩, q537, qs7, q73, q538⟩
theorem mw_X0_begun : mV "EnergyDiscs" yX0_begun cX0_begun 3 (some FieldType.int) 2 := ⟨⟨rfl, by decide +kernel, by decide +kernel, by decide +kernel⟩, q225, qs0, q73, q226⟩
theorem mw_X1_newMeter : mV "EnergyDiscs$House" yX1_newMeter cX1_newMeter 3 (some FieldType.int) 1 := ⟨⟨rfl, by decide +kernel, by decide +kernel, by decide +kernel⟩, q553, q554, q74, q555⟩
set_option maxHeartbeats 4000000 in
theorem m_X0_comes {l : Launch} {D : va_G} {X : Nat → Nat} {b0 : Nat} {tg : Nat → Nat} {e nid pl sv pd : Nat} {h : Int → Nat} {A : Int → Nat → Nat} {S P L V Pd : Int → Int} {kn ln N : Int} {G : gM} (hC : edC D X tg e nid pl sv pd h A S P kn L V Pd ln G)  (hW : rowW S N) (hn : nid < 890) {P2 : Int → Int} {kn2 : Int} {nid2 : Nat} {ch : Int} (hch : chR ch S P kn nid P2 kn2 nid2) {t : Int} (ht : rI t) : gMet l D X b0 yX0_comes cX0_comes 4 (some FieldType.int) (rmE 12 85 2881) [.ref e, .int (iI t), .int (iI ch)] G (edQ D X tg e nid2 (coF S t) P2 kn2 L V Pd ln G (wnM S t) (S 7)) := by
  refine gm_start (own := "EnergyDiscs") (lv := [some (.ref e), some (.int (iI t)), some (.int (iI ch)), none]) (by decide +kernel) rfl (Nat.le_of_ble_eq_true rfl) rfl (fun p_ e_ s_ m_ args_ below_ meth_ c_ hc hnm => ?_)
  obtain ⟨hlt, W, hH⟩ := ed_H hC
  obtain ⟨mcm, arm, hmcm, hMc, hMa, -⟩ := alR_P hH.2.2.2.2.1
  obtain ⟨mcl, arl, hmcl, hLc, hLa, -⟩ := alR_P hH.2.2.2.2.2.1
  have hb := hH.1
  have hwr : -5 ≤ wnM S t ∧ wnM S t ≤ 0 := by unfold wnM; (repeat' split) <;> omega
  have hn2 := ch_n hch
  have hc01 := ch_c hch
  obtain ⟨k, hk⟩ : ∃ k : Nat, S 7 = k := ⟨(S 7).toNat, by omega⟩
  refine gw_aload_n (q := 1) hc dX0_comes_0 rfl rfl xg_0 ?_
  refine gw_aload_n (q := 2) hc dX0_comes_1 rfl rfl xg_0 ?_
  refine gw_iload_n (q := 3) hc dX0_comes_2 rfl rfl xg_1 ?_
  refine gw_callV (q := 6) (bc' := 85) (bs' := 2881) (As := [_]) hc dX0_comes_3 rfl q535 mw_X0_whyNotMeter (rc_o hc cE_ED hC.1.1) rfl rfl (m_X0_whyNotMeter hC hW ht) ⟨Nat.le_of_ble_eq_true rfl, Nat.le_of_ble_eq_true rfl⟩ (Nat.le_of_ble_eq_true rfl) (Nat.le_of_ble_eq_true rfl) (Nat.le_of_ble_eq_true rfl) (goI fun r3 G3 h3 => ?_)
  obtain ⟨er3, hgg⟩ := h3
  rw [hgg, er3]
  refine gw_iload_n (q := 7) hc dX0_comes_6 rfl rfl xg_2 ?_
  refine gw_callV (q := 10) (bc' := 5) (bs' := 151) (As := [_, _]) hc dX0_comes_7 rfl q223 mw_X0_begun (rc_o hc cE_ED hC.1.1) rfl rfl (m_X0_begun hC hW hn hch (by omega)) ⟨Nat.le_of_ble_eq_true rfl, Nat.le_of_ble_eq_true rfl⟩ (Nat.le_of_ble_eq_true rfl) (Nat.le_of_ble_eq_true rfl) (Nat.le_of_ble_eq_true rfl) (goI fun r7 G7 h7 => ?_)
  obtain ⟨er7, hcase⟩ := h7
  rw [er7]
  refine gw_istore_n (q := 11) hc dX0_comes_10 rfl rfl xs_3 (by decide) (n2p xg_2 rfl) ?_
  refine gw_iload_n (q := 12) hc dX0_comes_11 rfl rfl xg_3 ?_
  refine gw_if_ge  (q := 15) (t := 19) hc dX0_comes_12 rfl (by decide) (by omega) (fun c12 => ?_) (fun c12 => ?_)
  · obtain ⟨hw0, tg1, hf1, h2, A2, hC2⟩ : wnM S t = 0 ∧ ∃ tg1 : Nat → Nat, frE tg tg1 G G7 ∧ ∃ (h2 : Int → Nat) (A2 : Int → Nat → Nat), edC D X tg1 e nid2 pl sv pd h2 A2 S P2 kn2 L V Pd ln G7 := by rcases hcase with ⟨q, -⟩ | q; (exfalso; omega); exact q
    obtain ⟨hlt2, W2, hH2⟩ := ed_H hC2
    obtain ⟨mcm2, arm2, hmcm2, hMc2, hMa2, -⟩ := alR_P hH2.2.2.2.2.1
    obtain ⟨mcl2, arl2, hmcl2, hLc2, hLa2, -⟩ := alR_P hH2.2.2.2.2.2.1
    refine gw_aload_n (q := 20) hc dX0_comes_19 rfl rfl xg_0 ?_
    refine gw_get (q := 23) hc dX0_comes_20 rfl cE_ED 0 (by decide) q198 (fun _ h => h) hC2.1.1 rfl ?_
    refine gw_iload_n (q := 24) hc dX0_comes_23 rfl rfl xg_1 ?_
    refine gw_callV (q := 27) (bc' := 0) (bs' := 0) (As := [_]) hc dX0_comes_24 rfl q552 mw_X1_newMeter (rc_o hc cE_HO hH2.2.2.1) rfl rfl (m_X1_newMeter hH2 hW (by omega) hk hw0 ht) ⟨Nat.le_of_ble_eq_true rfl, Nat.le_of_ble_eq_true rfl⟩ (Nat.le_of_ble_eq_true rfl) (Nat.le_of_ble_eq_true rfl) (Nat.le_of_ble_eq_true rfl) (goI fun r24 G24 h24 => ?_)
    obtain ⟨er24, tg3, A3, W3, ht3, hH3, hA3⟩ := h24
    rw [er24]
    exact gw_iret hc dX0_comes_27 ⟨_, rfl, Or.inr ⟨hw0, rfl, tg3, frE_tr hf1 (frE_of ht3 (by omega)), pl, sv, pd, _, _, ed_now hC2 ht3 hH3 (hA3 0 us_0) (by omega)⟩⟩
  · have hgg : G7 = G := by rcases hcase with ⟨-, q⟩ | ⟨q, -⟩; (exact q); omega
    rw [hgg]
    refine gw_iload_n (q := 16) hc dX0_comes_15 rfl rfl xg_3 ?_
    refine gw_goto (q := 27) hc dX0_comes_16 (by decide) ?_
    exact gw_iret hc dX0_comes_27 ⟨_, rfl, Or.inl ⟨by omega, rfl, rfl⟩⟩

theorem mw_X0_comes : mV "EnergyDiscs" yX0_comes cX0_comes 4 (some FieldType.int) 2 := ⟨⟨rfl, by decide +kernel, by decide +kernel, by decide +kernel⟩, q533, qs6, q73, q534⟩
set_option maxHeartbeats 4000000 in
theorem m_X0_meter {l : Launch} {D : va_G} {X : Nat → Nat} {b0 : Nat} {tg : Nat → Nat} {e nid pl sv pd : Nat} {h : Int → Nat} {A : Int → Nat → Nat} {S P L V Pd : Int → Int} {kn ln N : Int} {G : gM} (hC : edC D X tg e nid pl sv pd h A S P kn L V Pd ln G) (hW : rowW S N) (hn : nid < 890) {t : Int} (ht : rI t) : gMet l D X b0 yX0_meter cX0_meter 2 (some FieldType.int) (rmE 13 85 2881) [.ref e, .int (iI t)] G (edQ D X tg e (nid + 1) (coF S t) (rmF S P kn) (rmK kn) L V Pd ln G (wnM S t) (S 7)) := by
  refine gm_start (own := "EnergyDiscs") (lv := [some (.ref e), some (.int (iI t))]) (by decide +kernel) rfl (Nat.le_of_ble_eq_true rfl) rfl (fun p_ e_ s_ m_ args_ below_ meth_ c_ hc hnm => ?_)
  obtain ⟨hlt, W, hH⟩ := ed_H hC
  obtain ⟨mcm, arm, hmcm, hMc, hMa, -⟩ := alR_P hH.2.2.2.2.1
  obtain ⟨mcl, arl, hmcl, hLc, hLa, -⟩ := alR_P hH.2.2.2.2.2.1
  have hb := hH.1
  refine gw_aload_n (q := 1) hc dX0_meter_0 rfl rfl xg_0 ?_
  refine gw_iload_n (q := 2) hc dX0_meter_1 rfl rfl xg_1 ?_
  refine gw_iconst (q := 3) hc dX0_meter_2 rfl ?_
  refine gw_callV (q := 6) (bc' := 0) (bs' := 0) (As := [_, _]) hc dX0_meter_3 rfl q531 mw_X0_comes (rc_o hc cE_ED hC.1.1) rfl rfl (m_X0_comes hC hW hn (Or.inl ⟨rfl, rfl, rfl, rfl⟩) ht) ⟨Nat.le_of_ble_eq_true rfl, Nat.le_of_ble_eq_true rfl⟩ (Nat.le_of_ble_eq_true rfl) (Nat.le_of_ble_eq_true rfl) (Nat.le_of_ble_eq_true rfl) (goI fun r3 G3 h3 => ?_)
  exact gw_iret hc dX0_meter_6 ⟨_, rfl, h3⟩

theorem mw_X0_whyNotLoad : mV "EnergyDiscs" yX0_whyNotLoad cX0_whyNotLoad 3 (some FieldType.int) 2 := ⟨⟨rfl, by decide +kernel, by decide +kernel, by decide +kernel⟩, q568, qs10, q73, q569⟩
set_option maxHeartbeats 4000000 in
theorem m_X0_connects {l : Launch} {D : va_G} {X : Nat → Nat} {b0 : Nat} {tg : Nat → Nat} {e nid pl sv pd : Nat} {h : Int → Nat} {A : Int → Nat → Nat} {S P L V Pd : Int → Int} {kn ln N : Int} {G : gM} (hC : edC D X tg e nid pl sv pd h A S P kn L V Pd ln G)  (hW : rowW S N) (hn : nid < 890) {P2 : Int → Int} {kn2 : Int} {nid2 : Nat} {ch : Int} (hch : chR ch S P kn nid P2 kn2 nid2) {m w : Int} (hm : rI m) (hw : rI w) : gMet l D X b0 yX0_connects cX0_connects 5 (some FieldType.int) (rmE 12 83 2861) [.ref e, .int (iI m), .int (iI w), .int (iI ch)] G (edQ D X tg e nid2 (loF S m w) P2 kn2 L V Pd ln G (wnL S m w) (S 8)) := by
  refine gm_start (own := "EnergyDiscs") (lv := [some (.ref e), some (.int (iI m)), some (.int (iI w)), some (.int (iI ch)), none]) (by decide +kernel) rfl (Nat.le_of_ble_eq_true rfl) rfl (fun p_ e_ s_ m_ args_ below_ meth_ c_ hc hnm => ?_)
  obtain ⟨hlt, W, hH⟩ := ed_H hC
  obtain ⟨mcm, arm, hmcm, hMc, hMa, -⟩ := alR_P hH.2.2.2.2.1
  obtain ⟨mcl, arl, hmcl, hLc, hLa, -⟩ := alR_P hH.2.2.2.2.2.1
  have hb := hH.1
  have hwr : -5 ≤ wnL S m w ∧ wnL S m w ≤ 0 := by unfold wnL; (repeat' split) <;> omega
  have hn2 := ch_n hch
  have hc01 := ch_c hch
  obtain ⟨nd, hnd⟩ : ∃ nd : Nat, S 8 = nd := ⟨(S 8).toNat, by omega⟩
  refine gw_aload_n (q := 1) hc dX0_connects_0 rfl rfl xg_0 ?_
  refine gw_aload_n (q := 2) hc dX0_connects_1 rfl rfl xg_0 ?_
  refine gw_iload_n (q := 3) hc dX0_connects_2 rfl rfl xg_1 ?_
  refine gw_iload_n (q := 4) hc dX0_connects_3 rfl rfl xg_2 ?_
  refine gw_callV (q := 7) (bc' := 83) (bs' := 2861) (As := [_, _]) hc dX0_connects_4 rfl q566 mw_X0_whyNotLoad (rc_o hc cE_ED hC.1.1) rfl rfl (m_X0_whyNotLoad hC hW hm hw) ⟨Nat.le_of_ble_eq_true rfl, Nat.le_of_ble_eq_true rfl⟩ (Nat.le_of_ble_eq_true rfl) (Nat.le_of_ble_eq_true rfl) (Nat.le_of_ble_eq_true rfl) (goI fun r4 G4 h4 => ?_)
  obtain ⟨er4, hgg⟩ := h4
  rw [hgg, er4]
  refine gw_iload_n (q := 8) hc dX0_connects_7 rfl rfl xg_3 ?_
  refine gw_callV (q := 11) (bc' := 3) (bs' := 131) (As := [_, _]) hc dX0_connects_8 rfl q223 mw_X0_begun (rc_o hc cE_ED hC.1.1) rfl rfl (m_X0_begun hC hW hn hch (by omega)) ⟨Nat.le_of_ble_eq_true rfl, Nat.le_of_ble_eq_true rfl⟩ (Nat.le_of_ble_eq_true rfl) (Nat.le_of_ble_eq_true rfl) (Nat.le_of_ble_eq_true rfl) (goI fun r8 G8 h8 => ?_)
  obtain ⟨er8, hcase⟩ := h8
  rw [er8]
  refine gw_istore (q := 13) hc dX0_connects_11 rfl xs_4 (by decide) (n2p xg_3 rfl) ?_
  refine gw_iload (q := 15) hc dX0_connects_13 rfl xg_4 ?_
  refine gw_if_ge  (q := 18) (t := 23) hc dX0_connects_15 rfl (by decide) (by omega) (fun c15 => ?_) (fun c15 => ?_)
  · obtain ⟨hw0, tg1, hf1, h2, A2, hC2⟩ : wnL S m w = 0 ∧ ∃ tg1 : Nat → Nat, frE tg tg1 G G8 ∧ ∃ (h2 : Int → Nat) (A2 : Int → Nat → Nat), edC D X tg1 e nid2 pl sv pd h2 A2 S P2 kn2 L V Pd ln G8 := by rcases hcase with ⟨q, -⟩ | q; (exfalso; omega); exact q
    obtain ⟨hlt2, W2, hH2⟩ := ed_H hC2
    obtain ⟨mcm2, arm2, hmcm2, hMc2, hMa2, -⟩ := alR_P hH2.2.2.2.2.1
    obtain ⟨mcl2, arl2, hmcl2, hLc2, hLa2, -⟩ := alR_P hH2.2.2.2.2.2.1
    refine gw_aload_n (q := 24) hc dX0_connects_23 rfl rfl xg_0 ?_
    refine gw_get (q := 27) hc dX0_connects_24 rfl cE_ED 0 (by decide) q198 (fun _ h => h) hC2.1.1 rfl ?_
    refine gw_new (q := 30) (fs := [.int (iI 0), .int (iI 0), .int (iI 0)]) hc dX0_connects_27 rfl cE_LO q570 q500 q91 (fun j hj => by rcases (by omega : j = 0 ∨ j = 1 ∨ j = 2) with rfl | rfl | rfl <;> rfl) (bc' := 2) (bs' := 128) (Nat.le_of_ble_eq_true rfl) (Nat.le_of_ble_eq_true rfl) (fun x hnx hbx => ?_)
    have htx := tgR_new (tg := tg1) (hid := 998) (t := 99900) (e := oE 4 [.int (iI 0), .int (iI 0), .int (iI 0)]) hnx (Or.inr (by omega))
    have hCx := ed_oth hC2 htx (by omega) (by omega)
    refine gw_dup (q := 31) hc dX0_connects_30 rfl rfl ?_
    refine gw_iload_n (q := 32) hc dX0_connects_31 rfl rfl xg_1 ?_
    refine gw_iload_n (q := 33) hc dX0_connects_32 rfl rfl xg_2 ?_
    refine gw_callI (q := 36) (bc' := 2) (bs' := 128) (As := [_, _]) hc dX0_connects_33 rfl q571 mw_X4_init rfl rfl (m_X4_init gup_s) ⟨Nat.le_of_ble_eq_true rfl, Nat.le_of_ble_eq_true rfl⟩ (Nat.le_of_ble_eq_true rfl) (Nat.le_of_ble_eq_true rfl) (Nat.le_of_ble_eq_true rfl) (goV fun G33 h33 => ?_)
    subst h33
    refine gw_G gup_gup ?_
    have hta := tgR_new (tg := tg1) (hid := 998) (t := 99900) (e := loO w m 0) hnx (Or.inr (by omega))
    have hCa := ed_oth hC2 hta (by omega) (by omega)
    have hHa := hs_nw (t := 99900) (e := loO w m 0) hH2 hnx
    have hwl := hw0
    unfold wnL at hwl
    have hmr : 0 ≤ m ∧ m < S 7 := by (repeat' split at hwl) <;> omega
    have h812 : S 8 < 12 := by (repeat' split at hwl) <;> omega
    obtain ⟨mt, rfl⟩ : ∃ mt : Nat, m = mt := ⟨m.toNat, by omega⟩
    refine gw_callV (q := 39) (bc' := 0) (bs' := 0) (As := [_]) hc dX0_connects_36 rfl q572 mw_X1_addLoad (rc_o hc cE_HO hHa.2.2.1) rfl rfl (m_X1_addLoad hHa hW.1.1 hW.1.2.1 (S' := loF S (mt : Int) w) (nd := nd) (mt := mt) hnd (loF_m hnd) (by omega) (by rw [loC_new hnd]; exact gup_s) (by show (if x = x then 99900 else tg1 x) / 100 = 999; rw [if_pos rfl]) (by omega) (by omega) (loF_8 (by omega)) (fun i a b c d f => loF_o (by omega) (by omega) c)) ⟨Nat.le_of_ble_eq_true rfl, Nat.le_of_ble_eq_true rfl⟩ (Nat.le_of_ble_eq_true rfl) (Nat.le_of_ble_eq_true rfl) (Nat.le_of_ble_eq_true rfl) (goI fun r36 G36 h36 => ?_)
    obtain ⟨er36, tg3, ht3, hH3⟩ := h36
    rw [er36]
    exact gw_iret hc dX0_connects_39 ⟨_, rfl, Or.inr ⟨hw0, hnd.symm, tg3, frE_tr hf1 (frE_tr (frE_of hta (by omega)) (frE_of ht3 (by omega))), pl, sv, pd, _, _, ed_now hCa ht3 hH3 (A_lo_o (by omega)) (by omega)⟩⟩
  · have hgg : G8 = G := by rcases hcase with ⟨-, q⟩ | ⟨q, -⟩; (exact q); omega
    rw [hgg]
    refine gw_iload (q := 20) hc dX0_connects_18 rfl xg_4 ?_
    refine gw_goto (q := 39) hc dX0_connects_20 (by decide) ?_
    exact gw_iret hc dX0_connects_39 ⟨_, rfl, Or.inl ⟨by omega, rfl, rfl⟩⟩

theorem mw_X0_connects : mV "EnergyDiscs" yX0_connects cX0_connects 5 (some FieldType.int) 3 := ⟨⟨rfl, by decide +kernel, by decide +kernel, by decide +kernel⟩, q564, qs9, q73, q565⟩
set_option maxHeartbeats 4000000 in
theorem m_X0_load {l : Launch} {D : va_G} {X : Nat → Nat} {b0 : Nat} {tg : Nat → Nat} {e nid pl sv pd : Nat} {h : Int → Nat} {A : Int → Nat → Nat} {S P L V Pd : Int → Int} {kn ln N : Int} {G : gM} (hC : edC D X tg e nid pl sv pd h A S P kn L V Pd ln G) (hW : rowW S N) (hn : nid < 890) {m w : Int} (hm : rI m) (hw : rI w) : gMet l D X b0 yX0_load cX0_load 3 (some FieldType.int) (rmE 13 83 2861) [.ref e, .int (iI m), .int (iI w)] G (edQ D X tg e (nid + 1) (loF S m w) (rmF S P kn) (rmK kn) L V Pd ln G (wnL S m w) (S 8)) := by
  refine gm_start (own := "EnergyDiscs") (lv := [some (.ref e), some (.int (iI m)), some (.int (iI w))]) (by decide +kernel) rfl (Nat.le_of_ble_eq_true rfl) rfl (fun p_ e_ s_ m_ args_ below_ meth_ c_ hc hnm => ?_)
  obtain ⟨hlt, W, hH⟩ := ed_H hC
  obtain ⟨mcm, arm, hmcm, hMc, hMa, -⟩ := alR_P hH.2.2.2.2.1
  obtain ⟨mcl, arl, hmcl, hLc, hLa, -⟩ := alR_P hH.2.2.2.2.2.1
  have hb := hH.1
  refine gw_aload_n (q := 1) hc dX0_load_0 rfl rfl xg_0 ?_
  refine gw_iload_n (q := 2) hc dX0_load_1 rfl rfl xg_1 ?_
  refine gw_iload_n (q := 3) hc dX0_load_2 rfl rfl xg_2 ?_
  refine gw_iconst (q := 4) hc dX0_load_3 rfl ?_
  refine gw_callV (q := 7) (bc' := 0) (bs' := 0) (As := [_, _, _]) hc dX0_load_4 rfl q562 mw_X0_connects (rc_o hc cE_ED hC.1.1) rfl rfl (m_X0_connects hC hW hn (Or.inl ⟨rfl, rfl, rfl, rfl⟩) hm hw) ⟨Nat.le_of_ble_eq_true rfl, Nat.le_of_ble_eq_true rfl⟩ (Nat.le_of_ble_eq_true rfl) (Nat.le_of_ble_eq_true rfl) (Nat.le_of_ble_eq_true rfl) (goI fun r4 G4 h4 => ?_)
  exact gw_iret hc dX0_load_7 ⟨_, rfl, h4⟩

theorem mw_X0_isLoad : mV "EnergyDiscs" yX0_isLoad cX0_isLoad 2 (some FieldType.boolean) 1 := ⟨⟨rfl, by decide +kernel, by decide +kernel, by decide +kernel⟩, q583, qs12, q73, q584⟩
set_option maxHeartbeats 4000000 in
theorem m_X0_turns {l : Launch} {D : va_G} {X : Nat → Nat} {b0 : Nat} {tg : Nat → Nat} {e nid pl sv pd : Nat} {h : Int → Nat} {A : Int → Nat → Nat} {S P L V Pd : Int → Int} {kn ln N : Int} {G : gM} (hC : edC D X tg e nid pl sv pd h A S P kn L V Pd ln G)  (hW : rowW S N) (hn : nid < 890) {P2 : Int → Int} {kn2 : Int} {nid2 : Nat} {ch : Int} (hch : chR ch S P kn nid P2 kn2 nid2) {j : Int} (hj : rI j) : gMet l D X b0 yX0_turns cX0_turns 4 (some FieldType.int) (rmE 12 80 2730) [.ref e, .int (iI j), .int (iI ch)] G (edQ D X tg e nid2 (tuF S j) P2 kn2 L V Pd ln G (wnO S j) (1 - S (102 + 3 * j + 2))) := by
  refine gm_start (own := "EnergyDiscs") (lv := [some (.ref e), some (.int (iI j)), some (.int (iI ch)), none]) (by decide +kernel) rfl (Nat.le_of_ble_eq_true rfl) rfl (fun p_ e_ s_ m_ args_ below_ meth_ c_ hc hnm => ?_)
  obtain ⟨hlt, W, hH⟩ := ed_H hC
  obtain ⟨mcm, arm, hmcm, hMc, hMa, -⟩ := alR_P hH.2.2.2.2.1
  obtain ⟨mcl, arl, hmcl, hLc, hLa, -⟩ := alR_P hH.2.2.2.2.2.1
  have hb := hH.1
  have hn2 := ch_n hch
  have hc01 := ch_c hch
  refine gw_aload_n (q := 1) hc dX0_turns_0 rfl rfl xg_0 ?_
  refine gw_aload_n (q := 2) hc dX0_turns_1 rfl rfl xg_0 ?_
  refine gw_iload_n (q := 3) hc dX0_turns_2 rfl rfl xg_1 ?_
  refine gw_callV (q := 6) (bc' := 80) (bs' := 2730) (As := [_]) hc dX0_turns_3 rfl q581 mw_X0_isLoad (rc_o hc cE_ED hC.1.1) rfl rfl (m_X0_isLoad hC hj) ⟨Nat.le_of_ble_eq_true rfl, Nat.le_of_ble_eq_true rfl⟩ (Nat.le_of_ble_eq_true rfl) (Nat.le_of_ble_eq_true rfl) (Nat.le_of_ble_eq_true rfl) (goI fun r3 G3 h3 => ?_)
  obtain ⟨b3, hgg⟩ := h3
  rw [hgg]
  refine gw_if_eq  (q := 9) (t := 13) hc dX0_turns_6 rfl (by decide) (by omega) (fun c6 => ?_) (fun c6 => ?_)
  · skip
    refine gw_iconst (q := 14) hc dX0_turns_13 rfl ?_
    refine gw_iload_n (q := 15) hc dX0_turns_14 rfl rfl xg_2 ?_
    refine gw_callV (q := 18) (bc' := 0) (bs' := 0) (As := [_, _]) hc dX0_turns_15 rfl q223 mw_X0_begun (rc_o hc cE_ED hC.1.1) rfl rfl (m_X0_begun hC hW hn hch (by omega)) ⟨Nat.le_of_ble_eq_true rfl, Nat.le_of_ble_eq_true rfl⟩ (Nat.le_of_ble_eq_true rfl) (Nat.le_of_ble_eq_true rfl) (Nat.le_of_ble_eq_true rfl) (goI fun r15 G15 h15 => ?_)
    obtain ⟨er15, hcase⟩ := h15
    rw [er15]
    refine gw_istore_n (q := 19) hc dX0_turns_18 rfl rfl xs_3 (by decide) (n2p xg_2 rfl) ?_
    refine gw_iload_n (q := 20) hc dX0_turns_19 rfl rfl xg_3 ?_
    refine gw_if_ge  (q := 23) (t := 25) hc dX0_turns_20 rfl (by decide) (by omega) (fun c20 => ?_) (fun c20 => ?_)
    · obtain ⟨hw0, tg1, hf1, h2, A2, hC2⟩ : (0 ≤ j ∧ j < S 8) ∧ ∃ tg1 : Nat → Nat, frE tg tg1 G G15 ∧ ∃ (h2 : Int → Nat) (A2 : Int → Nat → Nat), edC D X tg1 e nid2 pl sv pd h2 A2 S P2 kn2 L V Pd ln G15 := by rcases hcase with ⟨q, -⟩ | q; (exfalso; omega); exact ⟨by omega, q.2⟩
      obtain ⟨hlt2, W2, hH2⟩ := ed_H hC2
      obtain ⟨mcm2, arm2, hmcm2, hMc2, hMa2, -⟩ := alR_P hH2.2.2.2.2.1
      obtain ⟨mcl2, arl2, hmcl2, hLc2, hLa2, -⟩ := alR_P hH2.2.2.2.2.2.1
      obtain ⟨k, rfl⟩ : ∃ k : Nat, j = k := ⟨j.toNat, by omega⟩
      have hk8 : (k : Int) < S 8 := by omega
      have hlo := hH2.2.2.2.2.2.2.2 k hk8
      have hlw := (hW.1.2.1.2 (k : Int) (by omega) (by omega)).2.2
      obtain ⟨cap, f, hA1, hf1b, hb1, hfi⟩ := alP_get hLa2 (i := (k : Int)) (by omega) (by omega)
      refine gw_aload_n (q := 26) hc dX0_turns_25 rfl rfl xg_0 ?_
      refine gw_get (q := 29) hc dX0_turns_26 rfl cE_ED 0 (by decide) q198 (fun _ h => h) hC2.1.1 rfl ?_
      refine gw_getN (q := 32) hc dX0_turns_29 rfl cE_HO 2 (by decide) q147 (fun _ h => h) hH2.2.2.1 rfl ?_
      refine gw_iload_n (q := 33) hc dX0_turns_32 rfl rfl xg_1 ?_
      refine gw_callF (q := 38) (bc' := 0) (bs' := 0) (As := [_]) hc dX0_turns_33 rfl cE_AL q586 mf_J2_get_7 rfl rfl (m_J2_get hLc2 hA1 (by omega) (by omega) hfi) (rc_o hc cE_AL hLc2) ⟨Nat.le_of_ble_eq_true rfl, Nat.le_of_ble_eq_true rfl⟩ (Nat.le_of_ble_eq_true rfl) (Nat.le_of_ble_eq_true rfl) (Nat.le_of_ble_eq_true rfl) (goA fun r33 G33 h33 => ?_)
      obtain ⟨er33, hgg⟩ := h33
      have er33b : r33 = A2 (-1) (60 + k) := by rw [er33]; show A2 (-1) (60 + (k : Int).toNat) = _; rw [Int.toNat_natCast]
      rw [hgg, er33b]
      refine gw_cast (q := 41) hc dX0_turns_38 rfl q570 (rc_o hc cE_LO hlo) ?_
      refine gw_aload_n (q := 42) hc dX0_turns_41 rfl rfl xg_0 ?_
      refine gw_get (q := 45) hc dX0_turns_42 rfl cE_ED 0 (by decide) q198 (fun _ h => h) hC2.1.1 rfl ?_
      refine gw_getN (q := 48) hc dX0_turns_45 rfl cE_HO 2 (by decide) q147 (fun _ h => h) hH2.2.2.1 rfl ?_
      refine gw_iload_n (q := 49) hc dX0_turns_48 rfl rfl xg_1 ?_
      refine gw_callF (q := 54) (bc' := 0) (bs' := 0) (As := [_]) hc dX0_turns_49 rfl cE_AL q586 mf_J2_get_7 rfl rfl (m_J2_get hLc2 hA1 (by omega) (by omega) hfi) (rc_o hc cE_AL hLc2) ⟨Nat.le_of_ble_eq_true rfl, Nat.le_of_ble_eq_true rfl⟩ (Nat.le_of_ble_eq_true rfl) (Nat.le_of_ble_eq_true rfl) (Nat.le_of_ble_eq_true rfl) (goA fun r49 G49 h49 => ?_)
      obtain ⟨er49, hgg⟩ := h49
      have er49b : r49 = A2 (-1) (60 + k) := by rw [er49]; show A2 (-1) (60 + (k : Int).toNat) = _; rw [Int.toNat_natCast]
      rw [hgg, er49b]
      refine gw_cast (q := 57) hc dX0_turns_54 rfl q570 (rc_o hc cE_LO hlo) ?_
      refine gw_getN (q := 60) hc dX0_turns_57 rfl cE_LO 2 (by decide) q513 (fun _ h => h) hlo rfl ?_
      refine gw_if_ne  (q := 63) (t := 67) hc dX0_turns_60 rfl (by decide) (by omega) (fun c60 => ?_) (fun c60 => ?_)
      · skip
        refine gw_iconst (q := 68) hc dX0_turns_67 rfl ?_
        refine gw_putN (q := 71) hc dX0_turns_68 rfl cE_LO 2 (by decide) q513 (fun _ h => h) rfl hlo (nz (by omega)) rfl (Nat.le_of_ble_eq_true rfl) ?_
        have hon : (0 : Int) = 1 - S (102 + 3 * (k : Int) + 2) := by omega
        refine gw_G (show _ = gup G15 (A2 (-1) (60 + k)) (loC (tuF S (k : Int)) k) from by unfold loC; rw [show tuF S (k : Int) (102 + 3 * (k : Int) + 2) = 1 - S (102 + 3 * (k : Int) + 2) from fu_s, tuF_o (by omega), tuF_o (by omega), ← hon]; rfl) ?_
        have hH3 := hs_upL (S' := tuF S (k : Int)) hH2 hk8 (fun i a b c d => tuF_o (by omega))
        have ht3 := tgR_upH (a := A2 (-1) (60 + k)) (e := loC (tuF S (k : Int)) k) (tgR_rf (tg := tg1) (hid := h2 (-1)) (G := G15)) (by rw [hH2.2.1 _ (us_l hk8)]; omega) (nn_s hlo)
        have hC3 := ed_now hC2 ht3 hH3 rfl (by omega)
        have hlo3 := hH3.2.2.2.2.2.2.2 k (by rw [tuF_o (by omega)]; exact hk8)
        obtain ⟨mcl3, arl3, hmcl3, hLc3, hLa3, -⟩ := alR_P hH3.2.2.2.2.2.1
        obtain ⟨cap3, f3, hA3, hf3, hb3, hfi3⟩ := alP_get hLa3 (i := (k : Int)) (by omega) (by rw [tuF_o (by omega)]; exact hk8)
        have e8 : tuF S (k : Int) 8 = S 8 := tuF_o (by omega)
        have hon3 : tuF S (k : Int) (102 + 3 * (k : Int) + 2) = 1 - S (102 + 3 * (k : Int) + 2) := fu_s
        refine gw_aload_n (q := 72) hc dX0_turns_71 rfl rfl xg_0 ?_
        refine gw_get (q := 75) hc dX0_turns_72 rfl cE_ED 0 (by decide) q198 (fun _ h => h) hC3.1.1 rfl ?_
        refine gw_getN (q := 78) hc dX0_turns_75 rfl cE_HO 2 (by decide) q147 (fun _ h => h) hH3.2.2.1 rfl ?_
        refine gw_iload_n (q := 79) hc dX0_turns_78 rfl rfl xg_1 ?_
        refine gw_callF (q := 84) (bc' := 0) (bs' := 0) (As := [_]) hc dX0_turns_79 rfl cE_AL q586 mf_J2_get_7 rfl rfl (m_J2_get hLc3 hA3 (by omega) (by omega) hfi3) (rc_o hc cE_AL hLc3) ⟨Nat.le_of_ble_eq_true rfl, Nat.le_of_ble_eq_true rfl⟩ (Nat.le_of_ble_eq_true rfl) (Nat.le_of_ble_eq_true rfl) (Nat.le_of_ble_eq_true rfl) (goA fun r79 G79 h79 => ?_)
        obtain ⟨er79, hgg⟩ := h79
        have er79b : r79 = A2 (-1) (60 + k) := by rw [er79]; show A2 (-1) (60 + (k : Int).toNat) = _; rw [Int.toNat_natCast]
        rw [hgg, er79b]
        refine gw_cast (q := 87) hc dX0_turns_84 rfl q570 (rc_o hc cE_LO hlo3) ?_
        refine gw_getN (q := 90) hc dX0_turns_87 rfl cE_LO 2 (by decide) q513 (fun _ h => h) hlo3 rfl ?_
        refine gw_if_eq  (q := 93) (t := 97) hc dX0_turns_90 rfl (by decide) (by omega) (fun c90 => ?_) (fun c90 => ?_)
        · skip
          refine gw_iconst (q := 98) hc dX0_turns_97 rfl ?_
          exact gw_iret hc dX0_turns_98 ⟨_, rfl, Or.inr ⟨by unfold wnO; rw [if_pos (by omega)], by omega, tg1, frE_tr hf1 (frE_of ht3 (by omega)), pl, sv, pd, _, _, hC3⟩⟩
        · skip
          refine gw_iconst (q := 94) hc dX0_turns_93 rfl ?_
          refine gw_goto (q := 98) hc dX0_turns_94 (by decide) ?_
          exact gw_iret hc dX0_turns_98 ⟨_, rfl, Or.inr ⟨by unfold wnO; rw [if_pos (by omega)], by omega, tg1, frE_tr hf1 (frE_of ht3 (by omega)), pl, sv, pd, _, _, hC3⟩⟩
      · skip
        refine gw_iconst (q := 64) hc dX0_turns_63 rfl ?_
        refine gw_goto (q := 68) hc dX0_turns_64 (by decide) ?_
        refine gw_putN (q := 71) hc dX0_turns_68 rfl cE_LO 2 (by decide) q513 (fun _ h => h) rfl hlo (nz (by omega)) rfl (Nat.le_of_ble_eq_true rfl) ?_
        have hon : (1 : Int) = 1 - S (102 + 3 * (k : Int) + 2) := by omega
        refine gw_G (show _ = gup G15 (A2 (-1) (60 + k)) (loC (tuF S (k : Int)) k) from by unfold loC; rw [show tuF S (k : Int) (102 + 3 * (k : Int) + 2) = 1 - S (102 + 3 * (k : Int) + 2) from fu_s, tuF_o (by omega), tuF_o (by omega), ← hon]; rfl) ?_
        have hH3 := hs_upL (S' := tuF S (k : Int)) hH2 hk8 (fun i a b c d => tuF_o (by omega))
        have ht3 := tgR_upH (a := A2 (-1) (60 + k)) (e := loC (tuF S (k : Int)) k) (tgR_rf (tg := tg1) (hid := h2 (-1)) (G := G15)) (by rw [hH2.2.1 _ (us_l hk8)]; omega) (nn_s hlo)
        have hC3 := ed_now hC2 ht3 hH3 rfl (by omega)
        have hlo3 := hH3.2.2.2.2.2.2.2 k (by rw [tuF_o (by omega)]; exact hk8)
        obtain ⟨mcl3, arl3, hmcl3, hLc3, hLa3, -⟩ := alR_P hH3.2.2.2.2.2.1
        obtain ⟨cap3, f3, hA3, hf3, hb3, hfi3⟩ := alP_get hLa3 (i := (k : Int)) (by omega) (by rw [tuF_o (by omega)]; exact hk8)
        have e8 : tuF S (k : Int) 8 = S 8 := tuF_o (by omega)
        have hon3 : tuF S (k : Int) (102 + 3 * (k : Int) + 2) = 1 - S (102 + 3 * (k : Int) + 2) := fu_s
        refine gw_aload_n (q := 72) hc dX0_turns_71 rfl rfl xg_0 ?_
        refine gw_get (q := 75) hc dX0_turns_72 rfl cE_ED 0 (by decide) q198 (fun _ h => h) hC3.1.1 rfl ?_
        refine gw_getN (q := 78) hc dX0_turns_75 rfl cE_HO 2 (by decide) q147 (fun _ h => h) hH3.2.2.1 rfl ?_
        refine gw_iload_n (q := 79) hc dX0_turns_78 rfl rfl xg_1 ?_
        refine gw_callF (q := 84) (bc' := 0) (bs' := 0) (As := [_]) hc dX0_turns_79 rfl cE_AL q586 mf_J2_get_7 rfl rfl (m_J2_get hLc3 hA3 (by omega) (by omega) hfi3) (rc_o hc cE_AL hLc3) ⟨Nat.le_of_ble_eq_true rfl, Nat.le_of_ble_eq_true rfl⟩ (Nat.le_of_ble_eq_true rfl) (Nat.le_of_ble_eq_true rfl) (Nat.le_of_ble_eq_true rfl) (goA fun r79 G79 h79 => ?_)
        obtain ⟨er79, hgg⟩ := h79
        have er79b : r79 = A2 (-1) (60 + k) := by rw [er79]; show A2 (-1) (60 + (k : Int).toNat) = _; rw [Int.toNat_natCast]
        rw [hgg, er79b]
        refine gw_cast (q := 87) hc dX0_turns_84 rfl q570 (rc_o hc cE_LO hlo3) ?_
        refine gw_getN (q := 90) hc dX0_turns_87 rfl cE_LO 2 (by decide) q513 (fun _ h => h) hlo3 rfl ?_
        refine gw_if_eq  (q := 93) (t := 97) hc dX0_turns_90 rfl (by decide) (by omega) (fun c90 => ?_) (fun c90 => ?_)
        · skip
          refine gw_iconst (q := 98) hc dX0_turns_97 rfl ?_
          exact gw_iret hc dX0_turns_98 ⟨_, rfl, Or.inr ⟨by unfold wnO; rw [if_pos (by omega)], by omega, tg1, frE_tr hf1 (frE_of ht3 (by omega)), pl, sv, pd, _, _, hC3⟩⟩
        · skip
          refine gw_iconst (q := 94) hc dX0_turns_93 rfl ?_
          refine gw_goto (q := 98) hc dX0_turns_94 (by decide) ?_
          exact gw_iret hc dX0_turns_98 ⟨_, rfl, Or.inr ⟨by unfold wnO; rw [if_pos (by omega)], by omega, tg1, frE_tr hf1 (frE_of ht3 (by omega)), pl, sv, pd, _, _, hC3⟩⟩
    · have hgg : G15 = G := by rcases hcase with ⟨-, q⟩ | ⟨q, -⟩; (exact q); omega
      rw [hgg]
      refine gw_iload_n (q := 24) hc dX0_turns_23 rfl rfl xg_3 ?_
      exact gw_iret hc dX0_turns_24 ⟨_, rfl, Or.inl ⟨by unfold wnO; rw [if_neg (by omega)]; omega, by unfold wnO; first | (exfalso; omega) | rw [if_neg (by omega)], rfl⟩⟩
  · skip
    refine gw_iconst (q := 10) hc dX0_turns_9 rfl ?_
    refine gw_goto (q := 14) hc dX0_turns_10 (by decide) ?_
    refine gw_iload_n (q := 15) hc dX0_turns_14 rfl rfl xg_2 ?_
    refine gw_callV (q := 18) (bc' := 0) (bs' := 0) (As := [_, _]) hc dX0_turns_15 rfl q223 mw_X0_begun (rc_o hc cE_ED hC.1.1) rfl rfl (m_X0_begun hC hW hn hch (by omega)) ⟨Nat.le_of_ble_eq_true rfl, Nat.le_of_ble_eq_true rfl⟩ (Nat.le_of_ble_eq_true rfl) (Nat.le_of_ble_eq_true rfl) (Nat.le_of_ble_eq_true rfl) (goI fun r15 G15 h15 => ?_)
    obtain ⟨er15, hcase⟩ := h15
    rw [er15]
    refine gw_istore_n (q := 19) hc dX0_turns_18 rfl rfl xs_3 (by decide) (n2p xg_2 rfl) ?_
    refine gw_iload_n (q := 20) hc dX0_turns_19 rfl rfl xg_3 ?_
    refine gw_if_ge  (q := 23) (t := 25) hc dX0_turns_20 rfl (by decide) (by omega) (fun c20 => ?_) (fun c20 => ?_)
    · obtain ⟨hw0, tg1, hf1, h2, A2, hC2⟩ : (0 ≤ j ∧ j < S 8) ∧ ∃ tg1 : Nat → Nat, frE tg tg1 G G15 ∧ ∃ (h2 : Int → Nat) (A2 : Int → Nat → Nat), edC D X tg1 e nid2 pl sv pd h2 A2 S P2 kn2 L V Pd ln G15 := by rcases hcase with ⟨q, -⟩ | q; (exfalso; omega); exact ⟨by omega, q.2⟩
      obtain ⟨hlt2, W2, hH2⟩ := ed_H hC2
      obtain ⟨mcm2, arm2, hmcm2, hMc2, hMa2, -⟩ := alR_P hH2.2.2.2.2.1
      obtain ⟨mcl2, arl2, hmcl2, hLc2, hLa2, -⟩ := alR_P hH2.2.2.2.2.2.1
      obtain ⟨k, rfl⟩ : ∃ k : Nat, j = k := ⟨j.toNat, by omega⟩
      have hk8 : (k : Int) < S 8 := by omega
      have hlo := hH2.2.2.2.2.2.2.2 k hk8
      have hlw := (hW.1.2.1.2 (k : Int) (by omega) (by omega)).2.2
      obtain ⟨cap, f, hA1, hf1b, hb1, hfi⟩ := alP_get hLa2 (i := (k : Int)) (by omega) (by omega)
      refine gw_aload_n (q := 26) hc dX0_turns_25 rfl rfl xg_0 ?_
      refine gw_get (q := 29) hc dX0_turns_26 rfl cE_ED 0 (by decide) q198 (fun _ h => h) hC2.1.1 rfl ?_
      refine gw_getN (q := 32) hc dX0_turns_29 rfl cE_HO 2 (by decide) q147 (fun _ h => h) hH2.2.2.1 rfl ?_
      refine gw_iload_n (q := 33) hc dX0_turns_32 rfl rfl xg_1 ?_
      refine gw_callF (q := 38) (bc' := 0) (bs' := 0) (As := [_]) hc dX0_turns_33 rfl cE_AL q586 mf_J2_get_7 rfl rfl (m_J2_get hLc2 hA1 (by omega) (by omega) hfi) (rc_o hc cE_AL hLc2) ⟨Nat.le_of_ble_eq_true rfl, Nat.le_of_ble_eq_true rfl⟩ (Nat.le_of_ble_eq_true rfl) (Nat.le_of_ble_eq_true rfl) (Nat.le_of_ble_eq_true rfl) (goA fun r33 G33 h33 => ?_)
      obtain ⟨er33, hgg⟩ := h33
      have er33b : r33 = A2 (-1) (60 + k) := by rw [er33]; show A2 (-1) (60 + (k : Int).toNat) = _; rw [Int.toNat_natCast]
      rw [hgg, er33b]
      refine gw_cast (q := 41) hc dX0_turns_38 rfl q570 (rc_o hc cE_LO hlo) ?_
      refine gw_aload_n (q := 42) hc dX0_turns_41 rfl rfl xg_0 ?_
      refine gw_get (q := 45) hc dX0_turns_42 rfl cE_ED 0 (by decide) q198 (fun _ h => h) hC2.1.1 rfl ?_
      refine gw_getN (q := 48) hc dX0_turns_45 rfl cE_HO 2 (by decide) q147 (fun _ h => h) hH2.2.2.1 rfl ?_
      refine gw_iload_n (q := 49) hc dX0_turns_48 rfl rfl xg_1 ?_
      refine gw_callF (q := 54) (bc' := 0) (bs' := 0) (As := [_]) hc dX0_turns_49 rfl cE_AL q586 mf_J2_get_7 rfl rfl (m_J2_get hLc2 hA1 (by omega) (by omega) hfi) (rc_o hc cE_AL hLc2) ⟨Nat.le_of_ble_eq_true rfl, Nat.le_of_ble_eq_true rfl⟩ (Nat.le_of_ble_eq_true rfl) (Nat.le_of_ble_eq_true rfl) (Nat.le_of_ble_eq_true rfl) (goA fun r49 G49 h49 => ?_)
      obtain ⟨er49, hgg⟩ := h49
      have er49b : r49 = A2 (-1) (60 + k) := by rw [er49]; show A2 (-1) (60 + (k : Int).toNat) = _; rw [Int.toNat_natCast]
      rw [hgg, er49b]
      refine gw_cast (q := 57) hc dX0_turns_54 rfl q570 (rc_o hc cE_LO hlo) ?_
      refine gw_getN (q := 60) hc dX0_turns_57 rfl cE_LO 2 (by decide) q513 (fun _ h => h) hlo rfl ?_
      refine gw_if_ne  (q := 63) (t := 67) hc dX0_turns_60 rfl (by decide) (by omega) (fun c60 => ?_) (fun c60 => ?_)
      · skip
        refine gw_iconst (q := 68) hc dX0_turns_67 rfl ?_
        refine gw_putN (q := 71) hc dX0_turns_68 rfl cE_LO 2 (by decide) q513 (fun _ h => h) rfl hlo (nz (by omega)) rfl (Nat.le_of_ble_eq_true rfl) ?_
        have hon : (0 : Int) = 1 - S (102 + 3 * (k : Int) + 2) := by omega
        refine gw_G (show _ = gup G15 (A2 (-1) (60 + k)) (loC (tuF S (k : Int)) k) from by unfold loC; rw [show tuF S (k : Int) (102 + 3 * (k : Int) + 2) = 1 - S (102 + 3 * (k : Int) + 2) from fu_s, tuF_o (by omega), tuF_o (by omega), ← hon]; rfl) ?_
        have hH3 := hs_upL (S' := tuF S (k : Int)) hH2 hk8 (fun i a b c d => tuF_o (by omega))
        have ht3 := tgR_upH (a := A2 (-1) (60 + k)) (e := loC (tuF S (k : Int)) k) (tgR_rf (tg := tg1) (hid := h2 (-1)) (G := G15)) (by rw [hH2.2.1 _ (us_l hk8)]; omega) (nn_s hlo)
        have hC3 := ed_now hC2 ht3 hH3 rfl (by omega)
        have hlo3 := hH3.2.2.2.2.2.2.2 k (by rw [tuF_o (by omega)]; exact hk8)
        obtain ⟨mcl3, arl3, hmcl3, hLc3, hLa3, -⟩ := alR_P hH3.2.2.2.2.2.1
        obtain ⟨cap3, f3, hA3, hf3, hb3, hfi3⟩ := alP_get hLa3 (i := (k : Int)) (by omega) (by rw [tuF_o (by omega)]; exact hk8)
        have e8 : tuF S (k : Int) 8 = S 8 := tuF_o (by omega)
        have hon3 : tuF S (k : Int) (102 + 3 * (k : Int) + 2) = 1 - S (102 + 3 * (k : Int) + 2) := fu_s
        refine gw_aload_n (q := 72) hc dX0_turns_71 rfl rfl xg_0 ?_
        refine gw_get (q := 75) hc dX0_turns_72 rfl cE_ED 0 (by decide) q198 (fun _ h => h) hC3.1.1 rfl ?_
        refine gw_getN (q := 78) hc dX0_turns_75 rfl cE_HO 2 (by decide) q147 (fun _ h => h) hH3.2.2.1 rfl ?_
        refine gw_iload_n (q := 79) hc dX0_turns_78 rfl rfl xg_1 ?_
        refine gw_callF (q := 84) (bc' := 0) (bs' := 0) (As := [_]) hc dX0_turns_79 rfl cE_AL q586 mf_J2_get_7 rfl rfl (m_J2_get hLc3 hA3 (by omega) (by omega) hfi3) (rc_o hc cE_AL hLc3) ⟨Nat.le_of_ble_eq_true rfl, Nat.le_of_ble_eq_true rfl⟩ (Nat.le_of_ble_eq_true rfl) (Nat.le_of_ble_eq_true rfl) (Nat.le_of_ble_eq_true rfl) (goA fun r79 G79 h79 => ?_)
        obtain ⟨er79, hgg⟩ := h79
        have er79b : r79 = A2 (-1) (60 + k) := by rw [er79]; show A2 (-1) (60 + (k : Int).toNat) = _; rw [Int.toNat_natCast]
        rw [hgg, er79b]
        refine gw_cast (q := 87) hc dX0_turns_84 rfl q570 (rc_o hc cE_LO hlo3) ?_
        refine gw_getN (q := 90) hc dX0_turns_87 rfl cE_LO 2 (by decide) q513 (fun _ h => h) hlo3 rfl ?_
        refine gw_if_eq  (q := 93) (t := 97) hc dX0_turns_90 rfl (by decide) (by omega) (fun c90 => ?_) (fun c90 => ?_)
        · skip
          refine gw_iconst (q := 98) hc dX0_turns_97 rfl ?_
          exact gw_iret hc dX0_turns_98 ⟨_, rfl, Or.inr ⟨by unfold wnO; rw [if_pos (by omega)], by omega, tg1, frE_tr hf1 (frE_of ht3 (by omega)), pl, sv, pd, _, _, hC3⟩⟩
        · skip
          refine gw_iconst (q := 94) hc dX0_turns_93 rfl ?_
          refine gw_goto (q := 98) hc dX0_turns_94 (by decide) ?_
          exact gw_iret hc dX0_turns_98 ⟨_, rfl, Or.inr ⟨by unfold wnO; rw [if_pos (by omega)], by omega, tg1, frE_tr hf1 (frE_of ht3 (by omega)), pl, sv, pd, _, _, hC3⟩⟩
      · skip
        refine gw_iconst (q := 64) hc dX0_turns_63 rfl ?_
        refine gw_goto (q := 68) hc dX0_turns_64 (by decide) ?_
        refine gw_putN (q := 71) hc dX0_turns_68 rfl cE_LO 2 (by decide) q513 (fun _ h => h) rfl hlo (nz (by omega)) rfl (Nat.le_of_ble_eq_true rfl) ?_
        have hon : (1 : Int) = 1 - S (102 + 3 * (k : Int) + 2) := by omega
        refine gw_G (show _ = gup G15 (A2 (-1) (60 + k)) (loC (tuF S (k : Int)) k) from by unfold loC; rw [show tuF S (k : Int) (102 + 3 * (k : Int) + 2) = 1 - S (102 + 3 * (k : Int) + 2) from fu_s, tuF_o (by omega), tuF_o (by omega), ← hon]; rfl) ?_
        have hH3 := hs_upL (S' := tuF S (k : Int)) hH2 hk8 (fun i a b c d => tuF_o (by omega))
        have ht3 := tgR_upH (a := A2 (-1) (60 + k)) (e := loC (tuF S (k : Int)) k) (tgR_rf (tg := tg1) (hid := h2 (-1)) (G := G15)) (by rw [hH2.2.1 _ (us_l hk8)]; omega) (nn_s hlo)
        have hC3 := ed_now hC2 ht3 hH3 rfl (by omega)
        have hlo3 := hH3.2.2.2.2.2.2.2 k (by rw [tuF_o (by omega)]; exact hk8)
        obtain ⟨mcl3, arl3, hmcl3, hLc3, hLa3, -⟩ := alR_P hH3.2.2.2.2.2.1
        obtain ⟨cap3, f3, hA3, hf3, hb3, hfi3⟩ := alP_get hLa3 (i := (k : Int)) (by omega) (by rw [tuF_o (by omega)]; exact hk8)
        have e8 : tuF S (k : Int) 8 = S 8 := tuF_o (by omega)
        have hon3 : tuF S (k : Int) (102 + 3 * (k : Int) + 2) = 1 - S (102 + 3 * (k : Int) + 2) := fu_s
        refine gw_aload_n (q := 72) hc dX0_turns_71 rfl rfl xg_0 ?_
        refine gw_get (q := 75) hc dX0_turns_72 rfl cE_ED 0 (by decide) q198 (fun _ h => h) hC3.1.1 rfl ?_
        refine gw_getN (q := 78) hc dX0_turns_75 rfl cE_HO 2 (by decide) q147 (fun _ h => h) hH3.2.2.1 rfl ?_
        refine gw_iload_n (q := 79) hc dX0_turns_78 rfl rfl xg_1 ?_
        refine gw_callF (q := 84) (bc' := 0) (bs' := 0) (As := [_]) hc dX0_turns_79 rfl cE_AL q586 mf_J2_get_7 rfl rfl (m_J2_get hLc3 hA3 (by omega) (by omega) hfi3) (rc_o hc cE_AL hLc3) ⟨Nat.le_of_ble_eq_true rfl, Nat.le_of_ble_eq_true rfl⟩ (Nat.le_of_ble_eq_true rfl) (Nat.le_of_ble_eq_true rfl) (Nat.le_of_ble_eq_true rfl) (goA fun r79 G79 h79 => ?_)
        obtain ⟨er79, hgg⟩ := h79
        have er79b : r79 = A2 (-1) (60 + k) := by rw [er79]; show A2 (-1) (60 + (k : Int).toNat) = _; rw [Int.toNat_natCast]
        rw [hgg, er79b]
        refine gw_cast (q := 87) hc dX0_turns_84 rfl q570 (rc_o hc cE_LO hlo3) ?_
        refine gw_getN (q := 90) hc dX0_turns_87 rfl cE_LO 2 (by decide) q513 (fun _ h => h) hlo3 rfl ?_
        refine gw_if_eq  (q := 93) (t := 97) hc dX0_turns_90 rfl (by decide) (by omega) (fun c90 => ?_) (fun c90 => ?_)
        · skip
          refine gw_iconst (q := 98) hc dX0_turns_97 rfl ?_
          exact gw_iret hc dX0_turns_98 ⟨_, rfl, Or.inr ⟨by unfold wnO; rw [if_pos (by omega)], by omega, tg1, frE_tr hf1 (frE_of ht3 (by omega)), pl, sv, pd, _, _, hC3⟩⟩
        · skip
          refine gw_iconst (q := 94) hc dX0_turns_93 rfl ?_
          refine gw_goto (q := 98) hc dX0_turns_94 (by decide) ?_
          exact gw_iret hc dX0_turns_98 ⟨_, rfl, Or.inr ⟨by unfold wnO; rw [if_pos (by omega)], by omega, tg1, frE_tr hf1 (frE_of ht3 (by omega)), pl, sv, pd, _, _, hC3⟩⟩
    · have hgg : G15 = G := by rcases hcase with ⟨-, q⟩ | ⟨q, -⟩; (exact q); omega
      rw [hgg]
      refine gw_iload_n (q := 24) hc dX0_turns_23 rfl rfl xg_3 ?_
      exact gw_iret hc dX0_turns_24 ⟨_, rfl, Or.inl ⟨by unfold wnO; rw [if_neg (by omega)]; omega, by unfold wnO; first | (exfalso; omega) | rw [if_neg (by omega)], rfl⟩⟩

theorem mw_X0_turns : mV "EnergyDiscs" yX0_turns cX0_turns 4 (some FieldType.int) 2 := ⟨⟨rfl, by decide +kernel, by decide +kernel, by decide +kernel⟩, q579, qs11, q73, q580⟩
set_option maxHeartbeats 4000000 in
theorem m_X0_turn {l : Launch} {D : va_G} {X : Nat → Nat} {b0 : Nat} {tg : Nat → Nat} {e nid pl sv pd : Nat} {h : Int → Nat} {A : Int → Nat → Nat} {S P L V Pd : Int → Int} {kn ln N : Int} {G : gM} (hC : edC D X tg e nid pl sv pd h A S P kn L V Pd ln G) (hW : rowW S N) (hn : nid < 890) {j : Int} (hj : rI j) : gMet l D X b0 yX0_turn cX0_turn 2 (some FieldType.int) (rmE 13 80 2730) [.ref e, .int (iI j)] G (edQ D X tg e (nid + 1) (tuF S j) (rmF S P kn) (rmK kn) L V Pd ln G (wnO S j) (1 - S (102 + 3 * j + 2))) := by
  refine gm_start (own := "EnergyDiscs") (lv := [some (.ref e), some (.int (iI j))]) (by decide +kernel) rfl (Nat.le_of_ble_eq_true rfl) rfl (fun p_ e_ s_ m_ args_ below_ meth_ c_ hc hnm => ?_)
  obtain ⟨hlt, W, hH⟩ := ed_H hC
  obtain ⟨mcm, arm, hmcm, hMc, hMa, -⟩ := alR_P hH.2.2.2.2.1
  obtain ⟨mcl, arl, hmcl, hLc, hLa, -⟩ := alR_P hH.2.2.2.2.2.1
  have hb := hH.1
  refine gw_aload_n (q := 1) hc dX0_turn_0 rfl rfl xg_0 ?_
  refine gw_iload_n (q := 2) hc dX0_turn_1 rfl rfl xg_1 ?_
  refine gw_iconst (q := 3) hc dX0_turn_2 rfl ?_
  refine gw_callV (q := 6) (bc' := 0) (bs' := 0) (As := [_, _]) hc dX0_turn_3 rfl q577 mw_X0_turns (rc_o hc cE_ED hC.1.1) rfl rfl (m_X0_turns hC hW hn (Or.inl ⟨rfl, rfl, rfl, rfl⟩) hj) ⟨Nat.le_of_ble_eq_true rfl, Nat.le_of_ble_eq_true rfl⟩ (Nat.le_of_ble_eq_true rfl) (Nat.le_of_ble_eq_true rfl) (Nat.le_of_ble_eq_true rfl) (goI fun r3 G3 h3 => ?_)
  exact gw_iret hc dX0_turn_6 ⟨_, rfl, h3⟩

