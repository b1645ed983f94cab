/-! ===== THE CLASS: orders carried out, all ===== -/
set_option maxRecDepth 100000
theorem ca_n {a : Int} {m : Nat} : (m : Int) + (a + 1) = ((m + 1 : Nat) : Int) + a := by omega
theorem ca_0 {Pd S : Int → Int} {ln q : Int} (h : ¬ (q < ln ∧ wyF Pd ln S q = 0)) : ∀ k : Nat, caF Pd ln k S q = (S, 0)
  | 0 => rfl
  | k + 1 => by simp only [caF]; rw [if_neg h]
theorem ca_1 {Pd S : Int → Int} {ln q : Int} (h : q < ln ∧ wyF Pd ln S q = 0) {k m : Nat} (hk : m < k) : (caF Pd ln (k - m) S q).1 = (caF Pd ln (k - (m + 1)) (dsF Pd ln S q) (oeF Pd ln q + 1)).1 ∧ (caF Pd ln (k - m) S q).2 = (caF Pd ln (k - (m + 1)) (dsF Pd ln S q) (oeF Pd ln q + 1)).2 + 1 := by
  obtain ⟨j, hj⟩ : ∃ j, k - m = j + 1 := ⟨k - m - 1, by omega⟩
  rw [hj, show k - (m + 1) = j by omega]
  simp only [caF]
  rw [if_pos h]
  exact ⟨rfl, rfl⟩

theorem mw_X0_doIt : mV "EnergyDiscs" yX0_doIt cX0_doIt 4 (some FieldType.int) 1 := ⟨⟨rfl, by decide +kernel, by decide +kernel, by decide +kernel⟩, q1220, qs39, q73, q1221⟩
set_option maxHeartbeats 4000000 in
theorem m_X0_carryOut {l : Launch} {D : va_G} {X : Nat → Nat} {b0 : Nat} {tg : Nat → Nat} {e nid pl sv pd : Nat} {h : Int → Nat} {A : Int → Nat → Nat} {S P L V Pd : Int → Int} {kn ln N : Int} {G : gM} (hC : edC D X tg e nid pl sv pd h A S P kn L V Pd ln G) (hW : rowW S N) (hN : N ≤ 900000) (hn : nid < 880) (hpw : padW Pd ln) : gMet l D X b0 yX0_carryOut cX0_carryOut 3 (some FieldType.int) (rmE 15 366 11591) [.ref e] G (pI fun r G' => (faF Pd ln 80 0 ≠ -6 ∧ r = -3 ∧ ∃ tg' : Nat → Nat, frT tg tg' G G' ∧ edR D X tg' e nid S P kn L V Pd ln G') ∨ (faF Pd ln 80 0 = -6 ∧ r = (caF Pd ln 41 S 0).2 ∧ ∃ tg' : Nat → Nat, frT tg tg' G G' ∧ edR D X tg' e (nid + 1) (caF Pd ln 41 S 0).1 (rmF S P kn) (rmK kn) L V Pd 0 G')) := by
  refine gm_start (own := "EnergyDiscs") (lv := [some (.ref e), none, none]) (by decide +kernel) rfl (Nat.le_of_ble_eq_true rfl) rfl (fun p_ e_ s_ m_ args_ below_ meth_ c_ hc hnm => ?_)
  obtain ⟨hlt, W, hH⟩ := ed_H hC
  obtain ⟨mcm, arm, hmcm, hMc, hMa, -⟩ := alR_P hH.2.2.2.2.1
  obtain ⟨mcl, arl, hmcl, hLc, hLa, -⟩ := alR_P hH.2.2.2.2.2.1
  have hb := hH.1
  refine gw_new (q := 3) (fs := [.null, .int (iI 0), .int (iI 0), .null]) hc dX0_carryOut_0 rfl cE_RE q1005 q1006 q95 (fun j hj => by rcases (by omega : j = 0 ∨ j = 1 ∨ j = 2 ∨ j = 3) with rfl | rfl | rfl | rfl <;> rfl) (bc' := 365) (bs' := 11587) (Nat.le_of_ble_eq_true rfl) (Nat.le_of_ble_eq_true rfl) (fun x hnx hbx => ?_)
  have htx := tgR_new (tg := tg) (hid := 992) (t := 99200) (e := oE 5 [.null, .int (iI 0), .int (iI 0), .null]) hnx (Or.inl (by omega))
  obtain ⟨tg1, etg1⟩ : ∃ tg1 : Nat → Nat, tg1 = fun q => if q = x then 99200 else tg q := ⟨_, rfl⟩
  rw [← etg1] at htx
  have hC1 := ed_oth hC htx (by omega) (by omega)
  have hx1 : tg1 x = 99200 := by rw [etg1]; exact if_pos rfl
  refine gw_dup (q := 4) hc dX0_carryOut_3 rfl rfl ?_
  refine gw_aload_n (q := 5) hc dX0_carryOut_4 rfl rfl xg_0 ?_
  refine gw_callI (q := 8) (bc' := 280) (bs' := 8770) (As := [_]) hc dX0_carryOut_5 rfl q1007 mw_X5_init rfl rfl (m_X5_init gup_s hx1 hC1.1.1 (by have := hC1.1.2.1; omega) hC1.2.2.2.2.2.2 hpw) ⟨Nat.le_of_ble_eq_true rfl, Nat.le_of_ble_eq_true rfl⟩ (Nat.le_of_ble_eq_true rfl) (Nat.le_of_ble_eq_true rfl) (Nat.le_of_ble_eq_true rfl) (goV fun G5 h5 => ?_)
  obtain ⟨tg2, m2, sp2, wr2, n2, qs2, ht2, hRd2, hQ2, hend2, hqs2⟩ := h5
  have hC2 := ed_oth hC1 ht2 (by omega) (by omega)
  obtain ⟨ol2, el2, hR2, ⟨htr2, hto2⟩, hal2, hel2⟩ := id hRd2
  have hspb := rdQ_b hpw hQ2
  refine gw_astore_n (q := 9) hc dX0_carryOut_8 rfl rfl xs_1 (by decide) (n2p xg_0 rfl) ?_
  refine gw_aload_n (q := 10) hc dX0_carryOut_9 rfl rfl xg_1 ?_
  refine gw_getN (q := 13) hc dX0_carryOut_10 rfl cE_RE 2 (by decide) q1203 (fun _ h => h) hR2 rfl ?_
  refine gw_if_eq  (q := 16) (t := 19) hc dX0_carryOut_13 rfl (by decide) (by omega) (fun c13 => ?_) (fun c13 => ?_)
  · skip
    have hw2 : wr2 = 0 := by omega
    have hfa : faF Pd ln 80 0 = -6 := rdQ_end (n := n2) hpw (by rw [← hw2]; exact hQ2) (by omega)
    have hQf : n2 = m2 + 1 ∧ (∀ i : Nat, i ≤ m2 → 0 ≤ qsF Pd ln i ∧ qsF Pd ln i < ln ∧ kwF (cd Pd ln (qsF Pd ln i)) ≠ 6 ∧ 0 ≤ oeF Pd ln (qsF Pd ln i)) ∧ sp2 = oeF Pd ln (qsF Pd ln m2) ∧ 2 * (m2 : Int) ≤ qsF Pd ln m2 := by
        rcases hQ2 with ⟨q, -⟩ | ⟨-, q1, -, q3, q4, q5, -⟩
        · omega
        · exact ⟨q1, q4, q5, q3.1⟩
    obtain ⟨hn2, hqf, hsp2, hm2⟩ := hQf
    have hpb := hpw.1
    have hq2 := hqf m2 (Nat.le_refl _)
    refine gw_aload_n (q := 20) hc dX0_carryOut_19 rfl rfl xg_0 ?_
    refine gw_callV (q := 23) (bc' := 200) (bs' := 6040) (As := []) hc dX0_carryOut_20 rfl q227 mw_X0_record (rc_o hc cE_ED hC2.1.1) rfl rfl (m_X0_record hC2 hW (by omega)) ⟨Nat.le_of_ble_eq_true rfl, Nat.le_of_ble_eq_true rfl⟩ (Nat.le_of_ble_eq_true rfl) (Nat.le_of_ble_eq_true rfl) (Nat.le_of_ble_eq_true rfl) (goV fun G20 h20 => ?_)
    obtain ⟨tg3, hf3, h3, A3, hC3⟩ := h20
    have hRd3 := rd_fr hRd2 hf3
    obtain ⟨vl3, mb3, cap3, f3, hG3, -⟩ := id hC3.2.2.2.2.2.2
    obtain ⟨ol3, el3, hR3, -⟩ := id hRd3
    refine gw_aload_n (q := 24) hc dX0_carryOut_23 rfl rfl xg_0 ?_
    refine gw_get (q := 27) hc dX0_carryOut_24 rfl cE_ED 3 (by decide) q202 (fun _ h => h) hC3.1.1 rfl ?_
    refine gw_iconst (q := 28) hc dX0_carryOut_27 rfl ?_
    refine gw_callV (q := 31) (bc' := 200) (bs' := 6040) (As := [_]) hc dX0_carryOut_28 rfl q684 mw_J4_setLength (rc_o hc cE_SB hG3) rfl rfl (m_J4_setLength hC3.2.2.2.2.2.2) ⟨Nat.le_of_ble_eq_true rfl, Nat.le_of_ble_eq_true rfl⟩ (Nat.le_of_ble_eq_true rfl) (Nat.le_of_ble_eq_true rfl) (Nat.le_of_ble_eq_true rfl) (goV fun G28 h28 => ?_)
    obtain ⟨ht4, hs4⟩ := h28
    have hC4 := ed_pad hC3 ht4 (hs4 Pd) (by omega)
    have hRd4 := rd_fr hRd3 (frE_of ht4 (by omega))
    have hfr4 : frT tg tg3 G G28 := frT_tr (frT_tr (frT_of htx (by omega)) (frT_of ht2 (by omega))) (frT_tr (frT_e hf3) (frT_of ht4 (by omega)))
    refine gw_iconst (q := 32) hc dX0_carryOut_31 rfl ?_
    refine gw_istore_n (q := 33) hc dX0_carryOut_32 rfl rfl xs_2 (by decide) (n2p xg_1 rfl) ?_
    obtain ⟨x0, hx0⟩ : ∃ x0, x0 = x := ⟨_, rfl⟩
    rw [← hx0] at hRd4 ⊢
    refine gw_lessB (bc' := 200) (bs' := 6040) (Nat.le_of_ble_eq_true rfl) (Nat.le_of_ble_eq_true rfl) ?_
    refine gw_loopB (σ := Nat × (Int → Int) × (Nat → Nat) × gM) (fun x => ((x.1 : Int) ≤ n2 ∧ rowW x.2.1 (N + x.1)) ∧ rdR D X x.2.2.1 Pd ln x0 e sp2 wr2 n2 qs2 x.2.2.2 ∧ edR D X x.2.2.1 e (nid + 1) x.2.1 (rmF S P kn) (rmK kn) L V Pd 0 x.2.2.2 ∧ frT tg x.2.2.1 G x.2.2.2 ∧ (caF Pd ln 41 S 0).1 = (caF Pd ln (41 - x.1) x.2.1 (qsF Pd ln x.1)).1 ∧ (caF Pd ln 41 S 0).2 = x.1 + (caF Pd ln (41 - x.1) x.2.1 (qsF Pd ln x.1)).2) (fun x => 41 - x.1) (fun x => x.2.2.2) (fun x => [some (.ref e), some (.ref x0), some (.int (iI (x.1 : Int)))]) (fun x => 5 * (40 - x.1) + 0) (fun x => 151 * (40 - x.1) + 0) ?_ ⟨0, S, tg3, G28⟩ ⟨⟨by dsimp only; omega, by dsimp only; rw [show N + ((0 : Nat) : Int) = N by omega]; exact hW⟩, hRd4, ⟨pl, sv, pd, _, _, hC4⟩, hfr4, rfl, by show (caF Pd ln 41 S 0).2 = 0 + (caF Pd ln 41 S 0).2; omega⟩
    rintro ⟨m, S1, tg5, G5⟩ hI33 ih33
    try dsimp only at hI33 ih33 ⊢
    obtain ⟨⟨hm5, hW5⟩, hRd5, hE5, hfr5, hca5⟩ := hI33
    obtain ⟨pl5, sv5, pd5, h5, A5, hC5⟩ := id hE5
    obtain ⟨ol5, el5, hR5, ⟨htr5, hto5⟩, hal5, hel5⟩ := id hRd5
    obtain ⟨mc5, ar5, hmc5, hOc5, hOa5, -⟩ := alR_P hal5
    refine gw_iload_n (q := 34) hc dX0_carryOut_33 rfl rfl xg_2 ?_
    refine gw_aload_n (q := 35) hc dX0_carryOut_34 rfl rfl xg_1 ?_
    refine gw_getN (q := 38) hc dX0_carryOut_35 rfl cE_RE 0 (by decide) q1199 (fun _ h => h) hR5 rfl ?_
    refine gw_callF (q := 43) (bc' := (5 * (40 - m) + 0 + 0)) (bs' := (151 * (40 - m) + 0 + 0)) (As := []) hc dX0_carryOut_38 rfl cE_AL q232 mf_J2_size_7 rfl rfl (m_J2_size hOc5) (rc_o hc cE_AL hOc5) ⟨Nat.le_of_ble_eq_true rfl, Nat.le_of_ble_eq_true rfl⟩ (Nat.le_of_ble_eq_true rfl) (by dsimp only [rmE]; omega) (by dsimp only [rmE]; omega) (goI fun r38 G38 h38 => ?_)
    obtain ⟨er38, hgg⟩ := h38
    rw [hgg, er38]
    refine gw_icmp_ge  (q := 46) (t := 72) hc dX0_carryOut_43 rfl (by decide) (by omega) (by omega) (fun c43 => ?_) (fun c43 => ?_)
    · have hnm : m = m2 + 1 := by omega
      have hnw : ¬ (qsF Pd ln m < ln ∧ wyF Pd ln S1 (qsF Pd ln m) = 0) := by rw [hnm]; show ¬ (oeF Pd ln (qsF Pd ln m2) + 1 < ln ∧ _); omega
      refine gw_iload_n (q := 73) hc dX0_carryOut_72 rfl rfl xg_2 ?_
      exact gw_iret hc dX0_carryOut_73 ⟨_, rfl, Or.inr ⟨hfa, by rw [hca5.2, ca_0 hnw]; show (m : Int) = m + 0; omega, tg5, hfr5, by rw [hca5.1, ca_0 hnw]; exact hE5⟩⟩
    · skip
      refine gw_lessB (bc' := 5 * ((40 - m) - 1) + 0 + 5) (bs' := 151 * ((40 - m) - 1) + 0 + 151) (by omega) (by omega) ?_
      have hqm := hqf m (by omega)
      obtain ⟨htq, hcq⟩ := hel5 (m : Int) (by omega) (by omega)
      rw [hqs2 m (by omega)] at hcq
      obtain ⟨cap5, f5, hA5, hf5, hb5, hfi5⟩ := alP_get hOa5 (i := (m : Int)) (by omega) (by omega)
      obtain ⟨k0, k1, k2, k3, k4, k5, k6⟩ := kw_c (z := cd Pd ln (qsF Pd ln m))
      obtain ⟨hwyE, hdsE⟩ := or_wy hW5 hqm.1 hqm.2.2.1 hqm.2.2.2
      refine gw_aload_n (q := 47) hc dX0_carryOut_46 rfl rfl xg_0 ?_
      refine gw_aload_n (q := 48) hc dX0_carryOut_47 rfl rfl xg_1 ?_
      refine gw_getN (q := 51) hc dX0_carryOut_48 rfl cE_RE 0 (by decide) q1199 (fun _ h => h) hR5 rfl ?_
      refine gw_iload_n (q := 52) hc dX0_carryOut_51 rfl rfl xg_2 ?_
      refine gw_callF (q := 57) (bc' := (5 * ((40 - m) - 1) + 0 + 5)) (bs' := (151 * ((40 - m) - 1) + 0 + 151)) (As := [_]) hc dX0_carryOut_52 rfl cE_AL q586 mf_J2_get_7 rfl rfl (m_J2_get hOc5 hA5 (by omega) (by omega) hfi5) (rc_o hc cE_AL hOc5) ⟨Nat.le_of_ble_eq_true rfl, Nat.le_of_ble_eq_true rfl⟩ (Nat.le_of_ble_eq_true rfl) (by dsimp only [rmE]; omega) (by dsimp only [rmE]; omega) (goA fun r52 G52 h52 => ?_)
      obtain ⟨er52, hgg⟩ := h52
      rw [hgg, er52]
      refine gw_cast (q := 60) hc dX0_carryOut_57 rfl q1217 (rc_o hc cE_OR hcq) ?_
      refine gw_callV (q := 63) (bc' := (5 * ((40 - m) - 1) + 0 + 0)) (bs' := (151 * ((40 - m) - 1) + 0 + 0)) (As := [_]) hc dX0_carryOut_60 rfl q1218 mw_X0_doIt (rc_o hc cE_ED hC5.1.1) rfl rfl (m_X0_doIt hC5 hW5 (by omega) (by omega) hcq (by omega) (orA_b (by omega)) (orB_b (by omega))) ⟨Nat.le_of_ble_eq_true rfl, Nat.le_of_ble_eq_true rfl⟩ (Nat.le_of_ble_eq_true rfl) (by dsimp only [rmE]; omega) (by dsimp only [rmE]; omega) (goI fun r60 G60 h60 => ?_)
      rw [hwyE, hdsE] at h60
      have hr60 : rI r60 := by rcases h60 with ⟨-, -, q, -⟩ | ⟨-, -, q, -⟩ <;> exact q
      refine gw_if_lt  (q := 66) (t := 72) hc dX0_carryOut_63 rfl (by decide) hr60 (fun c63 => ?_) (fun c63 => ?_)
      · have hnw : ¬ (qsF Pd ln m < ln ∧ wyF Pd ln S1 (qsF Pd ln m) = 0) := by rcases h60 with ⟨q, -, -, -⟩ | ⟨-, q, -, -⟩ <;> omega
        have hGG : G60 = G5 := by rcases h60 with ⟨-, -, -, q⟩ | ⟨-, q, -, -⟩; (exact q); (exfalso; omega)
        rw [hGG]
        refine gw_iload_n (q := 73) hc dX0_carryOut_72 rfl rfl xg_2 ?_
        exact gw_iret hc dX0_carryOut_73 ⟨_, rfl, Or.inr ⟨hfa, by rw [hca5.2, ca_0 hnw]; show (m : Int) = m + 0; omega, tg5, hfr5, by rw [hca5.1, ca_0 hnw]; exact hE5⟩⟩
      · obtain ⟨hwy0, tg6, hf6, hR6⟩ : wyF Pd ln S1 (qsF Pd ln m) = 0 ∧ ∃ tg6 : Nat → Nat, frE tg5 tg6 G5 G60 ∧ edR D X tg6 e (nid + 1) (dsF Pd ln S1 (qsF Pd ln m)) (rmF S P kn) (rmK kn) L V Pd 0 G60 := by rcases h60 with ⟨-, q, -, -⟩ | ⟨q, -, -, q2⟩; (exfalso; omega); exact ⟨q, q2⟩
        refine gw_iinc (q := 69) hc dX0_carryOut_66 rfl xg_2 xs_2 (by decide) (n2p xg_1 rfl) ?_
        refine gw_goto (q := 33) hc dX0_carryOut_69 (by decide) ?_
        refine gw_lessB (by omega) (by omega) (ih33 ⟨m + 1, dsF Pd ln S1 (qsF Pd ln m), tg6, G60⟩ ⟨⟨by dsimp only; push_cast; omega, by dsimp only; rw [show N + ((m + 1 : Nat) : Int) = N + m + 1 by omega]; exact rowW_ds hW5 hqm.1 hwy0⟩, rd_fr hRd5 hf6, hR6, frT_tr hfr5 (frT_e hf6), by dsimp only; rw [hca5.1, (ca_1 ⟨hqm.2.1, hwy0⟩ (show m < 41 by omega)).1]; rfl, by dsimp only; rw [hca5.2, (ca_1 ⟨hqm.2.1, hwy0⟩ (show m < 41 by omega)).2]; exact ca_n⟩ (by show 41 - (m + 1) < 41 - m; omega))
  · skip
    refine gw_bipush (q := 18) hc dX0_carryOut_16 rfl (by decide) ?_
    exact gw_iret hc dX0_carryOut_18 ⟨_, rfl, Or.inl ⟨by rcases hQ2 with ⟨-, q, q2⟩ | ⟨q, -⟩; (rw [q]; omega); (exfalso; omega), rfl, tg2, frT_tr (frT_of htx (by omega)) (frT_of ht2 (by omega)), pl, sv, pd, h, A, hC2⟩⟩

