/-! ===== THE CLASS: what if ===== -/
set_option maxRecDepth 100000
/-- a meter's bounds when minutes have passed -/
theorem pa_k {S : Int → Int} {N : Int} (h : rowW S N) {n : Nat} (hn : n ≤ 3000) (k : Nat) (hk : (k : Int) < S 7) :
    0 ≤ paF S n (11 + 13 * (k : Int) + 3) ∧ 0 ≤ paF S n (11 + 13 * (k : Int) + 4) ∧ paF S n (11 + 13 * (k : Int) + 3) + paF S n (11 + 13 * (k : Int) + 4) ≤ 1400000 := by
  obtain ⟨a1, a2⟩ := pa_inv h.1 n
  have h6 := rw_6 h
  have h1 := (a1.2.2.2.2.2 k (by omega) (by rw [a2.1]; exact hk)).2.2.1
  simp only [Int.zero_add] at h1
  omega

set_option maxHeartbeats 4000000 in
theorem m_X0_untilTurn {l : Launch} {D : va_G} {X : Nat → Nat} {b0 : Nat} {tg : Nat → Nat} {e nid pl sv pd : Nat} {h : Int → Nat} {A : Int → Nat → Nat} {S P L V Pd : Int → Int} {kn ln N : Int} {G : gM} (hC : edC D X tg e nid pl sv pd h A S P kn L V Pd ln G) (hW : rowW S N) (hn : nid < 890) {k : Nat} (hk7 : (k : Int) < S 7) : gMet l D X b0 yX0_untilTurn cX0_untilTurn 5 (some FieldType.int) (rmE 12 0 0) [.ref e, .int (iI (k : Int))] G (pI fun r G' => tiR S (k : Int) r ∧ frH tg (h (-1)) G G') := by
  refine gm_start (own := "EnergyDiscs") (lv := [some (.ref e), some (.int (iI (k : Int))), none, none, none]) (by decide +kernel) rfl (Nat.le_of_ble_eq_true rfl) rfl (fun p_ e_ s_ m_ args_ below_ meth_ c_ hc hnm => ?_)
  obtain ⟨hlt, W, hH⟩ := ed_H hC
  obtain ⟨mcm, arm, hmcm, hMc, hMa, -⟩ := alR_P hH.2.2.2.2.1
  obtain ⟨mcl, arl, hmcl, hLc, hLa, -⟩ := alR_P hH.2.2.2.2.2.1
  have hb := hH.1
  have hmt := (hH.2.2.2.2.2.2.1 k hk7).1
  refine gw_aload_n (q := 1) hc dX0_untilTurn_0 rfl rfl xg_0 ?_
  refine gw_iload_n (q := 2) hc dX0_untilTurn_1 rfl rfl xg_1 ?_
  refine gw_callV (q := 5) (bc' := 0) (bs' := 0) (As := [_]) hc dX0_untilTurn_2 rfl q599 mw_X0_meterAt (rc_o hc cE_ED hC.1.1) rfl rfl (m_X0_meterAt hC hk7) ⟨Nat.le_of_ble_eq_true rfl, Nat.le_of_ble_eq_true rfl⟩ (Nat.le_of_ble_eq_true rfl) (Nat.le_of_ble_eq_true rfl) (Nat.le_of_ble_eq_true rfl) (goA fun r2 G2 h2 => ?_)
  obtain ⟨er2, hgg⟩ := h2
  rw [hgg, er2]
  refine gw_callV (q := 8) (bc' := 0) (bs' := 0) (As := []) hc dX0_untilTurn_5 rfl q936 mw_X3_turns (rc_o hc cE_ME hmt) rfl rfl (m_X3_turns hmt) ⟨Nat.le_of_ble_eq_true rfl, Nat.le_of_ble_eq_true rfl⟩ (Nat.le_of_ble_eq_true rfl) (Nat.le_of_ble_eq_true rfl) (Nat.le_of_ble_eq_true rfl) (goI fun r5 G5 h5 => ?_)
  obtain ⟨er5, hgg⟩ := h5
  rw [hgg, er5, show S (11 + 13 * (k : Int) + 3) + S (11 + 13 * (k : Int) + 4) = tnF S k from rfl]
  refine gw_istore_n (q := 9) hc dX0_untilTurn_8 rfl rfl xs_2 (by decide) (n2p xg_1 rfl) ?_
  refine gw_aload_n (q := 10) hc dX0_untilTurn_9 rfl rfl xg_0 ?_
  refine gw_get (q := 13) hc dX0_untilTurn_10 rfl cE_ED 0 (by decide) q198 (fun _ h => h) hC.1.1 rfl ?_
  refine gw_callV (q := 16) (bc' := 0) (bs' := 0) (As := []) hc dX0_untilTurn_13 rfl q883 mw_X1_layPowers (rc_o hc cE_HO hH.2.2.1) rfl rfl (m_X1_layPowers hH hW) ⟨Nat.le_of_ble_eq_true rfl, Nat.le_of_ble_eq_true rfl⟩ (Nat.le_of_ble_eq_true rfl) (Nat.le_of_ble_eq_true rfl) (Nat.le_of_ble_eq_true rfl) (goV fun G13 h13 => ?_)
  obtain ⟨W3, hH3, hWp, hfr3⟩ := h13
  refine gw_iconst (q := 17) hc dX0_untilTurn_16 rfl ?_
  refine gw_istore_n (q := 18) hc dX0_untilTurn_17 rfl rfl xs_3 (by decide) (n2p xg_2 rfl) ?_
  refine gw_loop (σ := Nat × gM) (fun x => x.1 ≤ 3000 ∧ hsR D X tg (h (-1)) (A (-1)) (paF S x.1) W3 x.2 ∧ frH tg (h (-1)) G x.2 ∧ ∀ i : Nat, i < x.1 → tnF (paF S i) k = tnF S k) (fun x => 3000 - x.1) (fun x => x.2) (fun x => [some (.ref e), some (.int (iI (k : Int))), some (.int (iI (tnF S k))), some (.int (iI (x.1 : Int))), none]) ?_ (0, G13) ⟨by dsimp only; omega, hH3, hfr3, fun i hi => by dsimp only at hi; omega⟩
  rintro ⟨n, G1⟩ hI18 ih18
  try dsimp only at hI18 ⊢
  obtain ⟨hn3, hH1, hfr1, hpre1⟩ := id hI18
  have hC1 := ed_nowW hC (tgW_H hfr1) hH1 rfl (by omega)
  obtain ⟨hp1, hp2⟩ := pa_inv hW.1 n
  have hmt1 := (hH1.2.2.2.2.2.2.1 k (by rw [hp2.1]; exact hk7)).1
  have hbn := pa_k hW hn3 k hk7
  have hb0 := rm_k hW k hk7
  refine gw_iload_n (q := 19) hc dX0_untilTurn_18 rfl rfl xg_3 ?_
  refine gw_sipush (q := 22) hc dX0_untilTurn_19 rfl (by decide) ?_
  refine gw_icmp_ge  (q := 25) (t := 52) hc dX0_untilTurn_22 rfl (by decide) (by omega) (by omega) (fun c22 => ?_) (fun c22 => ?_)
  · skip
    refine gw_aload_n (q := 53) hc dX0_untilTurn_52 rfl rfl xg_0 ?_
    refine gw_iload_n (q := 54) hc dX0_untilTurn_53 rfl rfl xg_1 ?_
    refine gw_callV (q := 57) (bc' := 0) (bs' := 0) (As := [_]) hc dX0_untilTurn_54 rfl q599 mw_X0_meterAt (rc_o hc cE_ED hC1.1.1) rfl rfl (m_X0_meterAt hC1 (by rw [hp2.1]; exact hk7)) ⟨Nat.le_of_ble_eq_true rfl, Nat.le_of_ble_eq_true rfl⟩ (Nat.le_of_ble_eq_true rfl) (Nat.le_of_ble_eq_true rfl) (Nat.le_of_ble_eq_true rfl) (goA fun r54 G54 h54 => ?_)
    obtain ⟨er54, hgg⟩ := h54
    rw [hgg, er54]
    refine gw_callV (q := 60) (bc' := 0) (bs' := 0) (As := []) hc dX0_untilTurn_57 rfl q936 mw_X3_turns (rc_o hc cE_ME hmt1) rfl rfl (m_X3_turns hmt1) ⟨Nat.le_of_ble_eq_true rfl, Nat.le_of_ble_eq_true rfl⟩ (Nat.le_of_ble_eq_true rfl) (Nat.le_of_ble_eq_true rfl) (Nat.le_of_ble_eq_true rfl) (goI fun r57 G57 h57 => ?_)
    obtain ⟨er57, hgg⟩ := h57
    rw [hgg, er57]
    rw [show paF S n (11 + 13 * (k : Int) + 3) + paF S n (11 + 13 * (k : Int) + 4) = tnF (paF S n) k from rfl]
    have htb : 0 ≤ tnF (paF S n) k ∧ tnF (paF S n) k ≤ 1400000 := by unfold tnF; omega
    have htc : 0 ≤ tnF S k ∧ tnF S k ≤ 1400000 := by unfold tnF; omega
    refine gw_iload_n (q := 61) hc dX0_untilTurn_60 rfl rfl xg_2 ?_
    refine gw_icmp_ne  (q := 64) (t := 69) hc dX0_untilTurn_61 rfl (by decide) (by omega) (by omega) (fun c61 => ?_) (fun c61 => ?_)
    · skip
      refine gw_iload_n (q := 70) hc dX0_untilTurn_69 rfl rfl xg_3 ?_
      exact gw_iret hc dX0_untilTurn_70 ⟨_, rfl, ⟨Or.inl ⟨n, by rcases Nat.eq_zero_or_pos n with z | z; (rw [z] at c61; exact absurd rfl c61); omega, hn3, rfl, c61, hI18.2.2.2⟩, hfr1⟩⟩
    · skip
      refine gw_bipush (q := 66) hc dX0_untilTurn_64 rfl (by decide) ?_
      refine gw_goto (q := 70) hc dX0_untilTurn_66 (by decide) ?_
      exact gw_iret hc dX0_untilTurn_70 ⟨_, rfl, ⟨Or.inr ⟨rfl, fun i hi => by by_cases z : i = n; (rw [z]; omega); exact hI18.2.2.2 i (by omega)⟩, hfr1⟩⟩
  · skip
    refine gw_aload_n (q := 26) hc dX0_untilTurn_25 rfl rfl xg_0 ?_
    refine gw_iload_n (q := 27) hc dX0_untilTurn_26 rfl rfl xg_1 ?_
    refine gw_callV (q := 30) (bc' := 0) (bs' := 0) (As := [_]) hc dX0_untilTurn_27 rfl q599 mw_X0_meterAt (rc_o hc cE_ED hC1.1.1) rfl rfl (m_X0_meterAt hC1 (by rw [hp2.1]; exact hk7)) ⟨Nat.le_of_ble_eq_true rfl, Nat.le_of_ble_eq_true rfl⟩ (Nat.le_of_ble_eq_true rfl) (Nat.le_of_ble_eq_true rfl) (Nat.le_of_ble_eq_true rfl) (goA fun r27 G27 h27 => ?_)
    obtain ⟨er27, hgg⟩ := h27
    rw [hgg, er27]
    refine gw_callV (q := 33) (bc' := 0) (bs' := 0) (As := []) hc dX0_untilTurn_30 rfl q936 mw_X3_turns (rc_o hc cE_ME hmt1) rfl rfl (m_X3_turns hmt1) ⟨Nat.le_of_ble_eq_true rfl, Nat.le_of_ble_eq_true rfl⟩ (Nat.le_of_ble_eq_true rfl) (Nat.le_of_ble_eq_true rfl) (Nat.le_of_ble_eq_true rfl) (goI fun r30 G30 h30 => ?_)
    obtain ⟨er30, hgg⟩ := h30
    rw [hgg, er30]
    rw [show paF S n (11 + 13 * (k : Int) + 3) + paF S n (11 + 13 * (k : Int) + 4) = tnF (paF S n) k from rfl]
    have htb : 0 ≤ tnF (paF S n) k ∧ tnF (paF S n) k ≤ 1400000 := by unfold tnF; omega
    have htc : 0 ≤ tnF S k ∧ tnF S k ≤ 1400000 := by unfold tnF; omega
    refine gw_iload_n (q := 34) hc dX0_untilTurn_33 rfl rfl xg_2 ?_
    refine gw_icmp_ne  (q := 37) (t := 52) hc dX0_untilTurn_34 rfl (by decide) (by omega) (by omega) (fun c34 => ?_) (fun c34 => ?_)
    · skip
      refine gw_aload_n (q := 53) hc dX0_untilTurn_52 rfl rfl xg_0 ?_
      refine gw_iload_n (q := 54) hc dX0_untilTurn_53 rfl rfl xg_1 ?_
      refine gw_callV (q := 57) (bc' := 0) (bs' := 0) (As := [_]) hc dX0_untilTurn_54 rfl q599 mw_X0_meterAt (rc_o hc cE_ED hC1.1.1) rfl rfl (m_X0_meterAt hC1 (by rw [hp2.1]; exact hk7)) ⟨Nat.le_of_ble_eq_true rfl, Nat.le_of_ble_eq_true rfl⟩ (Nat.le_of_ble_eq_true rfl) (Nat.le_of_ble_eq_true rfl) (Nat.le_of_ble_eq_true rfl) (goA fun r54 G54 h54 => ?_)
      obtain ⟨er54, hgg⟩ := h54
      rw [hgg, er54]
      refine gw_callV (q := 60) (bc' := 0) (bs' := 0) (As := []) hc dX0_untilTurn_57 rfl q936 mw_X3_turns (rc_o hc cE_ME hmt1) rfl rfl (m_X3_turns hmt1) ⟨Nat.le_of_ble_eq_true rfl, Nat.le_of_ble_eq_true rfl⟩ (Nat.le_of_ble_eq_true rfl) (Nat.le_of_ble_eq_true rfl) (Nat.le_of_ble_eq_true rfl) (goI fun r57 G57 h57 => ?_)
      obtain ⟨er57, hgg⟩ := h57
      rw [hgg, er57]
      rw [show paF S n (11 + 13 * (k : Int) + 3) + paF S n (11 + 13 * (k : Int) + 4) = tnF (paF S n) k from rfl]
      have htb : 0 ≤ tnF (paF S n) k ∧ tnF (paF S n) k ≤ 1400000 := by unfold tnF; omega
      have htc : 0 ≤ tnF S k ∧ tnF S k ≤ 1400000 := by unfold tnF; omega
      refine gw_iload_n (q := 61) hc dX0_untilTurn_60 rfl rfl xg_2 ?_
      refine gw_icmp_ne  (q := 64) (t := 69) hc dX0_untilTurn_61 rfl (by decide) (by omega) (by omega) (fun c61 => ?_) (fun c61 => ?_)
      · skip
        refine gw_iload_n (q := 70) hc dX0_untilTurn_69 rfl rfl xg_3 ?_
        exact gw_iret hc dX0_untilTurn_70 ⟨_, rfl, ⟨Or.inl ⟨n, by rcases Nat.eq_zero_or_pos n with z | z; (rw [z] at c61; exact absurd rfl c61); omega, hn3, rfl, c61, hI18.2.2.2⟩, hfr1⟩⟩
      · skip
        refine gw_bipush (q := 66) hc dX0_untilTurn_64 rfl (by decide) ?_
        refine gw_goto (q := 70) hc dX0_untilTurn_66 (by decide) ?_
        exact gw_iret hc dX0_untilTurn_70 ⟨_, rfl, ⟨Or.inr ⟨rfl, fun i hi => by by_cases z : i = n; (rw [z]; omega); exact hI18.2.2.2 i (by omega)⟩, hfr1⟩⟩
    · skip
      refine gw_aload_n (q := 38) hc dX0_untilTurn_37 rfl rfl xg_0 ?_
      refine gw_get (q := 41) hc dX0_untilTurn_38 rfl cE_ED 0 (by decide) q198 (fun _ h => h) hC1.1.1 rfl ?_
      refine gw_callV (q := 44) (bc' := 0) (bs' := 0) (As := []) hc dX0_untilTurn_41 rfl q958 mw_X1_passOne (rc_o hc cE_HO hH1.2.2.1) rfl rfl (m_X1_passOne hH1 (T := S 6 + n) hp1 (by have := rw_6 hW; omega) (fun y hy => by rw [pw_E hp2 hW.1.1 hW.1.2.1 (by omega)]; exact hWp y (by rw [hp2.1] at hy; exact hy))) ⟨Nat.le_of_ble_eq_true rfl, Nat.le_of_ble_eq_true rfl⟩ (Nat.le_of_ble_eq_true rfl) (Nat.le_of_ble_eq_true rfl) (Nat.le_of_ble_eq_true rfl) (goI fun r41 G41 h41 => ?_)
      obtain ⟨er41, hH4, hfr4⟩ := h41
      rw [er41]
      refine gw_istore (q := 46) hc dX0_untilTurn_44 rfl xs_4 (by decide) (n2p xg_3 rfl) ?_
      refine gw_iinc (q := 49) hc dX0_untilTurn_46 rfl xg_3 xs_3 (by decide) (n2p xg_2 rfl) ?_
      refine gw_goto (q := 18) hc dX0_untilTurn_49 (by decide) ?_
      refine gw_drop (i := 4) xs_4 ?_
      exact ih18 (n + 1, G41) ⟨by dsimp only; omega, hH4, frH_tr hfr1 hfr4, fun i hi => by by_cases z : i = n; (rw [z]; omega); exact hI18.2.2.2 i (by dsimp only at hi; omega)⟩ (by dsimp only; omega)

set_option maxHeartbeats 4000000 in
theorem m_X0_turned {l : Launch} {D : va_G} {X : Nat → Nat} {b0 : Nat} {tg : Nat → Nat} {e nid pl sv pd : Nat} {h : Int → Nat} {A : Int → Nat → Nat} {S P L V Pd : Int → Int} {kn ln N : Int} {G : gM} (hC : edC D X tg e nid pl sv pd h A S P kn L V Pd ln G) (hW : rowW S N) (hn : nid < 890) {k : Nat} (hk7 : (k : Int) < S 7) {t w : Int} (ht : 1 ≤ t ∧ t ≤ 1440) (hw : w = 0 ∨ w = 1) : gMet l D X b0 yX0_turned cX0_turned 6 (some FieldType.int) (rmE 13 0 0) [.ref e, .int (iI (k : Int)), .int (iI t), .int (iI w)] G (pI fun r G' => r = (if w = 1 then paF S t.toNat (11 + 13 * (k : Int) + 4) - S (11 + 13 * (k : Int) + 4) else paF S t.toNat (11 + 13 * (k : Int) + 3) - S (11 + 13 * (k : Int) + 3)) ∧ frH tg (h (-1)) G G') := by
  refine gm_start (own := "EnergyDiscs") (lv := [some (.ref e), some (.int (iI (k : Int))), some (.int (iI t)), some (.int (iI w)), none, none]) (by decide +kernel) rfl (Nat.le_of_ble_eq_true rfl) rfl (fun p_ e_ s_ m_ args_ below_ meth_ c_ hc hnm => ?_)
  obtain ⟨hlt, W, hH⟩ := ed_H hC
  obtain ⟨mcm, arm, hmcm, hMc, hMa, -⟩ := alR_P hH.2.2.2.2.1
  obtain ⟨mcl, arl, hmcl, hLc, hLa, -⟩ := alR_P hH.2.2.2.2.2.1
  have hb := hH.1
  have hmt := (hH.2.2.2.2.2.2.1 k hk7).1
  refine gw_iload_n (q := 1) hc dX0_turned_0 rfl rfl xg_3 ?_
  refine gw_if_eq  (q := 4) (t := 15) hc dX0_turned_1 rfl (by decide) (by omega) (fun c1 => ?_) (fun c1 => ?_)
  · skip
    refine gw_aload_n (q := 16) hc dX0_turned_15 rfl rfl xg_0 ?_
    refine gw_iload_n (q := 17) hc dX0_turned_16 rfl rfl xg_1 ?_
    refine gw_callV (q := 20) (bc' := 0) (bs' := 0) (As := [_]) hc dX0_turned_17 rfl q599 mw_X0_meterAt (rc_o hc cE_ED hC.1.1) rfl rfl (m_X0_meterAt hC hk7) ⟨Nat.le_of_ble_eq_true rfl, Nat.le_of_ble_eq_true rfl⟩ (Nat.le_of_ble_eq_true rfl) (Nat.le_of_ble_eq_true rfl) (Nat.le_of_ble_eq_true rfl) (goA fun r17 G17 h17 => ?_)
    obtain ⟨er17, hgg⟩ := h17
    rw [hgg, er17]
    refine gw_getN (q := 23) hc dX0_turned_20 rfl cE_ME 8 (by decide) q431 (fun _ h => h) hmt rfl ?_
    refine gw_istore (q := 25) hc dX0_turned_23 rfl xs_4 (by decide) (n2p xg_3 rfl) ?_
    refine gw_aload_n (q := 26) hc dX0_turned_25 rfl rfl xg_0 ?_
    refine gw_get (q := 29) hc dX0_turned_26 rfl cE_ED 0 (by decide) q198 (fun _ h => h) hC.1.1 rfl ?_
    refine gw_iload_n (q := 30) hc dX0_turned_29 rfl rfl xg_2 ?_
    refine gw_callV (q := 33) (bc' := 0) (bs' := 0) (As := [_]) hc dX0_turned_30 rfl q637 mw_X1_pass (rc_o hc cE_HO hH.2.2.1) rfl rfl (m_X1_pass hH hW (by omega)) ⟨Nat.le_of_ble_eq_true rfl, Nat.le_of_ble_eq_true rfl⟩ (Nat.le_of_ble_eq_true rfl) (Nat.le_of_ble_eq_true rfl) (Nat.le_of_ble_eq_true rfl) (goI fun r30 G30 h30 => ?_)
    obtain ⟨er30, W3, hH3, -, hfr3⟩ := h30
    rw [er30]
    have hC3 := ed_nowW hC (tgW_H hfr3) hH3 rfl (by omega)
    obtain ⟨hp1, hp2⟩ := pa_inv hW.1 t.toNat
    have hmt3 := (hH3.2.2.2.2.2.2.1 k (by rw [hp2.1]; exact hk7)).1
    refine gw_istore (q := 35) hc dX0_turned_33 rfl xs_5 (by decide) (n2p xg_4 rfl) ?_
    refine gw_iload_n (q := 36) hc dX0_turned_35 rfl rfl xg_3 ?_
    refine gw_if_eq  (q := 39) (t := 50) hc dX0_turned_36 rfl (by decide) (by omega) (fun c36 => ?_) (fun c36 => ?_)
    · skip
      refine gw_aload_n (q := 51) hc dX0_turned_50 rfl rfl xg_0 ?_
      refine gw_iload_n (q := 52) hc dX0_turned_51 rfl rfl xg_1 ?_
      refine gw_callV (q := 55) (bc' := 0) (bs' := 0) (As := [_]) hc dX0_turned_52 rfl q599 mw_X0_meterAt (rc_o hc cE_ED hC3.1.1) rfl rfl (m_X0_meterAt hC3 (by rw [hp2.1]; exact hk7)) ⟨Nat.le_of_ble_eq_true rfl, Nat.le_of_ble_eq_true rfl⟩ (Nat.le_of_ble_eq_true rfl) (Nat.le_of_ble_eq_true rfl) (Nat.le_of_ble_eq_true rfl) (goA fun r52 G52 h52 => ?_)
      obtain ⟨er52, hgg⟩ := h52
      rw [hgg, er52]
      refine gw_getN (q := 58) hc dX0_turned_55 rfl cE_ME 8 (by decide) q431 (fun _ h => h) hmt3 rfl ?_
      refine gw_iload (q := 60) hc dX0_turned_58 rfl xg_4 ?_
      refine gw_isub (q := 61) hc dX0_turned_60 rfl ?_
      exact gw_iret hc dX0_turned_61 ⟨_, rfl, ⟨by rw [if_neg (by omega)], hfr3⟩⟩
    · exfalso; omega
  · skip
    refine gw_aload_n (q := 5) hc dX0_turned_4 rfl rfl xg_0 ?_
    refine gw_iload_n (q := 6) hc dX0_turned_5 rfl rfl xg_1 ?_
    refine gw_callV (q := 9) (bc' := 0) (bs' := 0) (As := [_]) hc dX0_turned_6 rfl q599 mw_X0_meterAt (rc_o hc cE_ED hC.1.1) rfl rfl (m_X0_meterAt hC hk7) ⟨Nat.le_of_ble_eq_true rfl, Nat.le_of_ble_eq_true rfl⟩ (Nat.le_of_ble_eq_true rfl) (Nat.le_of_ble_eq_true rfl) (Nat.le_of_ble_eq_true rfl) (goA fun r6 G6 h6 => ?_)
    obtain ⟨er6, hgg⟩ := h6
    rw [hgg, er6]
    refine gw_getN (q := 12) hc dX0_turned_9 rfl cE_ME 9 (by decide) q434 (fun _ h => h) hmt rfl ?_
    refine gw_goto (q := 23) hc dX0_turned_12 (by decide) ?_
    refine gw_istore (q := 25) hc dX0_turned_23 rfl xs_4 (by decide) (n2p xg_3 rfl) ?_
    refine gw_aload_n (q := 26) hc dX0_turned_25 rfl rfl xg_0 ?_
    refine gw_get (q := 29) hc dX0_turned_26 rfl cE_ED 0 (by decide) q198 (fun _ h => h) hC.1.1 rfl ?_
    refine gw_iload_n (q := 30) hc dX0_turned_29 rfl rfl xg_2 ?_
    refine gw_callV (q := 33) (bc' := 0) (bs' := 0) (As := [_]) hc dX0_turned_30 rfl q637 mw_X1_pass (rc_o hc cE_HO hH.2.2.1) rfl rfl (m_X1_pass hH hW (by omega)) ⟨Nat.le_of_ble_eq_true rfl, Nat.le_of_ble_eq_true rfl⟩ (Nat.le_of_ble_eq_true rfl) (Nat.le_of_ble_eq_true rfl) (Nat.le_of_ble_eq_true rfl) (goI fun r30 G30 h30 => ?_)
    obtain ⟨er30, W3, hH3, -, hfr3⟩ := h30
    rw [er30]
    have hC3 := ed_nowW hC (tgW_H hfr3) hH3 rfl (by omega)
    obtain ⟨hp1, hp2⟩ := pa_inv hW.1 t.toNat
    have hmt3 := (hH3.2.2.2.2.2.2.1 k (by rw [hp2.1]; exact hk7)).1
    refine gw_istore (q := 35) hc dX0_turned_33 rfl xs_5 (by decide) (n2p xg_4 rfl) ?_
    refine gw_iload_n (q := 36) hc dX0_turned_35 rfl rfl xg_3 ?_
    refine gw_if_eq  (q := 39) (t := 50) hc dX0_turned_36 rfl (by decide) (by omega) (fun c36 => ?_) (fun c36 => ?_)
    · exfalso; omega
    · skip
      refine gw_aload_n (q := 40) hc dX0_turned_39 rfl rfl xg_0 ?_
      refine gw_iload_n (q := 41) hc dX0_turned_40 rfl rfl xg_1 ?_
      refine gw_callV (q := 44) (bc' := 0) (bs' := 0) (As := [_]) hc dX0_turned_41 rfl q599 mw_X0_meterAt (rc_o hc cE_ED hC3.1.1) rfl rfl (m_X0_meterAt hC3 (by rw [hp2.1]; exact hk7)) ⟨Nat.le_of_ble_eq_true rfl, Nat.le_of_ble_eq_true rfl⟩ (Nat.le_of_ble_eq_true rfl) (Nat.le_of_ble_eq_true rfl) (Nat.le_of_ble_eq_true rfl) (goA fun r41 G41 h41 => ?_)
      obtain ⟨er41, hgg⟩ := h41
      rw [hgg, er41]
      refine gw_getN (q := 47) hc dX0_turned_44 rfl cE_ME 9 (by decide) q434 (fun _ h => h) hmt3 rfl ?_
      refine gw_goto (q := 58) hc dX0_turned_47 (by decide) ?_
      refine gw_iload (q := 60) hc dX0_turned_58 rfl xg_4 ?_
      refine gw_isub (q := 61) hc dX0_turned_60 rfl ?_
      exact gw_iret hc dX0_turned_61 ⟨_, rfl, ⟨by rw [if_pos (by omega)], hfr3⟩⟩

theorem mw_X0_untilTurn : mV "EnergyDiscs" yX0_untilTurn cX0_untilTurn 5 (some FieldType.int) 1 := ⟨⟨rfl, by decide +kernel, by decide +kernel, by decide +kernel⟩, q956, qs27, q73, q957⟩
set_option maxHeartbeats 4000000 in
theorem m_X0_lambda_turnsIn_0 {l : Launch} {D : va_G} {X : Nat → Nat} {b0 : Nat} {tg : Nat → Nat} {e nid pl sv pd : Nat} {h : Int → Nat} {A : Int → Nat → Nat} {S P L V Pd : Int → Int} {kn ln N : Int} {G : gM} (hC : edC D X tg e nid pl sv pd h A S P kn L V Pd ln G) (hW : rowW S N) (hn : nid < 890) {k : Nat} (hk7 : (k : Int) < S 7) : gMet l D X b0 yX0_lambda_turnsIn_0 cX0_lambda_turnsIn_0 2 (some FieldType.int) (rmE 13 0 0) [.ref e, .int (iI (k : Int))] G (pI fun r G' => tiR S (k : Int) r ∧ frH tg (h (-1)) G G') := by
  refine gm_start (own := "EnergyDiscs") (lv := [some (.ref e), some (.int (iI (k : Int)))]) (by decide +kernel) rfl (Nat.le_of_ble_eq_true rfl) rfl (fun p_ e_ s_ m_ args_ below_ meth_ c_ hc hnm => ?_)
  obtain ⟨hlt, W, hH⟩ := ed_H hC
  obtain ⟨mcm, arm, hmcm, hMc, hMa, -⟩ := alR_P hH.2.2.2.2.1
  obtain ⟨mcl, arl, hmcl, hLc, hLa, -⟩ := alR_P hH.2.2.2.2.2.1
  have hb := hH.1
  refine gw_aload_n (q := 1) hc dX0_lambda_turnsIn_0_0 rfl rfl xg_0 ?_
  refine gw_iload_n (q := 2) hc dX0_lambda_turnsIn_0_1 rfl rfl xg_1 ?_
  refine gw_callV (q := 5) (bc' := 0) (bs' := 0) (As := [_]) hc dX0_lambda_turnsIn_0_2 rfl q954 mw_X0_untilTurn (rc_o hc cE_ED hC.1.1) rfl rfl (m_X0_untilTurn hC hW hn hk7) ⟨Nat.le_of_ble_eq_true rfl, Nat.le_of_ble_eq_true rfl⟩ (Nat.le_of_ble_eq_true rfl) (Nat.le_of_ble_eq_true rfl) (Nat.le_of_ble_eq_true rfl) (goI fun r2 G2 h2 => ?_)
  exact gw_iret hc dX0_lambda_turnsIn_0_5 ⟨_, rfl, h2⟩

theorem mw_X0_turned : mV "EnergyDiscs" yX0_turned cX0_turned 6 (some FieldType.int) 3 := ⟨⟨rfl, by decide +kernel, by decide +kernel, by decide +kernel⟩, q976, qs30, q73, q977⟩
set_option maxHeartbeats 4000000 in
theorem m_X0_lambda_wouldTurn_1 {l : Launch} {D : va_G} {X : Nat → Nat} {b0 : Nat} {tg : Nat → Nat} {e nid pl sv pd : Nat} {h : Int → Nat} {A : Int → Nat → Nat} {S P L V Pd : Int → Int} {kn ln N : Int} {G : gM} (hC : edC D X tg e nid pl sv pd h A S P kn L V Pd ln G) (hW : rowW S N) (hn : nid < 890) {k : Nat} (hk7 : (k : Int) < S 7) {t w : Int} (ht : 1 ≤ t ∧ t ≤ 1440) (hw : w = 0 ∨ w = 1) : gMet l D X b0 yX0_lambda_wouldTurn_1 cX0_lambda_wouldTurn_1 4 (some FieldType.int) (rmE 14 0 0) [.ref e, .int (iI (k : Int)), .int (iI t), .int (iI w)] G (pI fun r G' => r = (if w = 1 then paF S t.toNat (11 + 13 * (k : Int) + 4) - S (11 + 13 * (k : Int) + 4) else paF S t.toNat (11 + 13 * (k : Int) + 3) - S (11 + 13 * (k : Int) + 3)) ∧ frH tg (h (-1)) G G') := by
  refine gm_start (own := "EnergyDiscs") (lv := [some (.ref e), some (.int (iI (k : Int))), some (.int (iI t)), some (.int (iI w))]) (by decide +kernel) rfl (Nat.le_of_ble_eq_true rfl) rfl (fun p_ e_ s_ m_ args_ below_ meth_ c_ hc hnm => ?_)
  obtain ⟨hlt, W, hH⟩ := ed_H hC
  obtain ⟨mcm, arm, hmcm, hMc, hMa, -⟩ := alR_P hH.2.2.2.2.1
  obtain ⟨mcl, arl, hmcl, hLc, hLa, -⟩ := alR_P hH.2.2.2.2.2.1
  have hb := hH.1
  refine gw_aload_n (q := 1) hc dX0_lambda_wouldTurn_1_0 rfl rfl xg_0 ?_
  refine gw_iload_n (q := 2) hc dX0_lambda_wouldTurn_1_1 rfl rfl xg_1 ?_
  refine gw_iload_n (q := 3) hc dX0_lambda_wouldTurn_1_2 rfl rfl xg_2 ?_
  refine gw_iload_n (q := 4) hc dX0_lambda_wouldTurn_1_3 rfl rfl xg_3 ?_
  refine gw_iconst (q := 5) hc dX0_lambda_wouldTurn_1_4 rfl ?_
  refine gw_icmp_ne  (q := 8) (t := 12) hc dX0_lambda_wouldTurn_1_5 rfl (by decide) (by omega) (by omega) (fun c5 => ?_) (fun c5 => ?_)
  · skip
    refine gw_iconst (q := 13) hc dX0_lambda_wouldTurn_1_12 rfl ?_
    refine gw_callV (q := 16) (bc' := 0) (bs' := 0) (As := [_, _, _]) hc dX0_lambda_wouldTurn_1_13 rfl q974 mw_X0_turned (rc_o hc cE_ED hC.1.1) rfl rfl (m_X0_turned (w := 0) hC hW hn hk7 ht (by omega)) ⟨Nat.le_of_ble_eq_true rfl, Nat.le_of_ble_eq_true rfl⟩ (Nat.le_of_ble_eq_true rfl) (Nat.le_of_ble_eq_true rfl) (Nat.le_of_ble_eq_true rfl) (goI fun r13 G13 h13 => ?_)
    exact gw_iret hc dX0_lambda_wouldTurn_1_16 ⟨_, rfl, ⟨by rw [h13.1, if_neg (by omega), if_neg (by omega)], h13.2⟩⟩
  · skip
    refine gw_iconst (q := 9) hc dX0_lambda_wouldTurn_1_8 rfl ?_
    refine gw_goto (q := 13) hc dX0_lambda_wouldTurn_1_9 (by decide) ?_
    refine gw_callV (q := 16) (bc' := 0) (bs' := 0) (As := [_, _, _]) hc dX0_lambda_wouldTurn_1_13 rfl q974 mw_X0_turned (rc_o hc cE_ED hC.1.1) rfl rfl (m_X0_turned (w := 1) hC hW hn hk7 ht (by omega)) ⟨Nat.le_of_ble_eq_true rfl, Nat.le_of_ble_eq_true rfl⟩ (Nat.le_of_ble_eq_true rfl) (Nat.le_of_ble_eq_true rfl) (Nat.le_of_ble_eq_true rfl) (goI fun r13 G13 h13 => ?_)
    exact gw_iret hc dX0_lambda_wouldTurn_1_16 ⟨_, rfl, ⟨by rw [h13.1, if_pos rfl, if_pos (by omega)], h13.2⟩⟩

