/-! ===== THE CLASS: answers ===== -/
set_option maxRecDepth 100000
/-- a meter's bounds, as the walks ask them -/
theorem rm_k {S : Int → Int} {N : Int} (h : rowW S N) (k : Nat) (hk : (k : Int) < S 7) :
    (0 ≤ S (11 + 13 * (k : Int) + 1) ∧ S (11 + 13 * (k : Int) + 1) < 6000) ∧ (100 ≤ S (11 + 13 * (k : Int) + 2) ∧ S (11 + 13 * (k : Int) + 2) ≤ 160) ∧ (0 ≤ S (11 + 13 * (k : Int) + 3) ∧ 0 ≤ S (11 + 13 * (k : Int) + 4) ∧ S (11 + 13 * (k : Int) + 3) + S (11 + 13 * (k : Int) + 4) ≤ 1299987) ∧
    (0 ≤ S (11 + 13 * (k : Int) + 5) ∧ S (11 + 13 * (k : Int) + 5) ≤ 4799952000) ∧ (S (11 + 13 * (k : Int) + 7) = 0 ∨ S (11 + 13 * (k : Int) + 7) = 1) ∧ (0 ≤ S (11 + 13 * (k : Int) + 9) ∧ S (11 + 13 * (k : Int) + 9) < 5000) ∧ 0 ≤ S (11 + 13 * (k : Int) + 6) ∧ S (11 + 13 * (k : Int) + 6) ≤ N := by
  have h1 := h.1.2.2.2.2.2 k (by omega) hk
  have h6 := rw_6 h
  have h2 := h.2.2.2.2 k (by omega) hk
  unfold mtW at h1
  simp only [Int.zero_add] at h1 h6
  omega

set_option maxHeartbeats 4000000 in
theorem m_X0_untilWeaker {l : Launch} {D : va_G} {X : Nat → Nat} {b0 : Nat} {tg : Nat → Nat} {e nid pl sv pd : Nat} {h : Int → Nat} {A : Int → Nat → Nat} {S P L V Pd : Int → Int} {kn ln N : Int} {G : gM} (hC : edC D X tg e nid pl sv pd h A S P kn L V Pd ln G) (hW : rowW S N) {k : Nat} (hk7 : (k : Int) < S 7) : gMet l D X b0 yX0_untilWeaker cX0_untilWeaker 2 (some FieldType.int) (rmE 1 0 0) [.ref e, .ref (A (-1) (10 + k))] G (eI (uwF S k) G) := by
  refine gm_start (own := "EnergyDiscs") (lv := [some (.ref e), some (.ref (A (-1) (10 + k)))]) (by decide +kernel) rfl (Nat.le_of_ble_eq_true rfl) rfl (fun p_ e_ s_ m_ args_ below_ meth_ c_ hc hnm => ?_)
  obtain ⟨hlt, W, hH⟩ := ed_H hC
  obtain ⟨mcm, arm, hmcm, hMc, hMa, -⟩ := alR_P hH.2.2.2.2.1
  obtain ⟨mcl, arl, hmcl, hLc, hLa, -⟩ := alR_P hH.2.2.2.2.2.1
  have hb := hH.1
  obtain ⟨g, hgs, hg⟩ := hH.2.2.2.1
  have hst := rw_s hW
  have hmt := (hH.2.2.2.2.2.2.1 k hk7).1
  have hmw := rm_k hW k hk7
  refine gw_aload_n (q := 1) hc dX0_untilWeaker_0 rfl rfl xg_1 ?_
  refine gw_getN (q := 4) hc dX0_untilWeaker_1 rfl cE_ME 6 (by decide) q425 (fun _ h => h) hmt rfl ?_
  refine gw_sipush (q := 7) hc dX0_untilWeaker_4 rfl (by decide) ?_
  refine gw_icmp_ne  (q := 10) (t := 15) hc dX0_untilWeaker_7 rfl (by decide) (by omega) (by omega) (fun c7 => ?_) (fun c7 => ?_)
  · skip
    refine gw_iconst (q := 16) hc dX0_untilWeaker_15 rfl ?_
    refine gw_aload_n (q := 17) hc dX0_untilWeaker_16 rfl rfl xg_0 ?_
    refine gw_get (q := 20) hc dX0_untilWeaker_17 rfl cE_ED 0 (by decide) q198 (fun _ h => h) hC.1.1 rfl ?_
    refine gw_getN (q := 23) hc dX0_untilWeaker_20 rfl cE_HO 0 (by decide) q143 (fun _ h => h) hH.2.2.1 rfl ?_
    refine gw_iconst (q := 24) hc dX0_untilWeaker_23 rfl ?_
    refine gw_iald (q := 25) hc dX0_untilWeaker_24 rfl hgs ⟨by omega, by omega⟩ (by omega) ?_
    rw [hg 3 (by omega) (by omega)]
    refine gw_aload_n (q := 26) hc dX0_untilWeaker_25 rfl rfl xg_1 ?_
    refine gw_getN (q := 29) hc dX0_untilWeaker_26 rfl cE_ME 7 (by decide) q428 (fun _ h => h) hmt rfl ?_
    refine gw_isub (q := 30) hc dX0_untilWeaker_29 rfl ?_
    refine gw_mmax (q := 33) hc dX0_untilWeaker_30 rfl q893 (by omega) (by omega) (Nat.le_of_ble_eq_true rfl) (Nat.le_of_ble_eq_true rfl) ?_
    exact gw_iret hc dX0_untilWeaker_33 ⟨_, rfl, ⟨by unfold uwF; (repeat' split) <;> omega, rfl⟩⟩
  · skip
    refine gw_bipush (q := 12) hc dX0_untilWeaker_10 rfl (by decide) ?_
    refine gw_goto (q := 33) hc dX0_untilWeaker_12 (by decide) ?_
    exact gw_iret hc dX0_untilWeaker_33 ⟨_, rfl, ⟨by unfold uwF; (repeat' split) <;> omega, rfl⟩⟩

theorem mw_X0_untilWeaker : mV "EnergyDiscs" yX0_untilWeaker cX0_untilWeaker 2 (some FieldType.int) 1 := ⟨⟨rfl, by decide +kernel, by decide +kernel, by decide +kernel⟩, q891, qs23, q73, q892⟩
set_option maxHeartbeats 4000000 in
theorem m_X0_ofMore {l : Launch} {D : va_G} {X : Nat → Nat} {b0 : Nat} {tg : Nat → Nat} {e nid pl sv pd : Nat} {h : Int → Nat} {A : Int → Nat → Nat} {S P L V Pd : Int → Int} {kn ln N : Int} {G : gM} (hC : edC D X tg e nid pl sv pd h A S P kn L V Pd ln G) (hW : rowW S N) {k : Nat} {x : Int} (hk7 : (k : Int) < S 7) (hx : rI x) (hx5 : x < 0 ∨ 5 < x) : gMet l D X b0 yX0_ofMore cX0_ofMore 3 (some FieldType.int) (rmE 2 0 0) [.ref e, .ref (A (-1) (10 + k)), .int (iI x)] G (eI (ofF S k x) G) := by
  refine gm_start (own := "EnergyDiscs") (lv := [some (.ref e), some (.ref (A (-1) (10 + k))), some (.int (iI x))]) (by decide +kernel) rfl (Nat.le_of_ble_eq_true rfl) rfl (fun p_ e_ s_ m_ args_ below_ meth_ c_ hc hnm => ?_)
  obtain ⟨hlt, W, hH⟩ := ed_H hC
  obtain ⟨mcm, arm, hmcm, hMc, hMa, -⟩ := alR_P hH.2.2.2.2.1
  obtain ⟨mcl, arl, hmcl, hLc, hLa, -⟩ := alR_P hH.2.2.2.2.2.1
  have hb := hH.1
  have hmt := (hH.2.2.2.2.2.2.1 k hk7).1
  have hmw := rm_k hW k hk7
  refine gw_iload_n (q := 1) hc dX0_ofMore_0 rfl rfl xg_2 ?_
  rcases (by omega : x < 6 ∨ x = 6 ∨ x = 7 ∨ x = 8 ∨ x = 9 ∨ x = 10 ∨ x = 11 ∨ 11 < x) with w1 | w1 | w1 | w1 | w1 | w1 | w1 | w1
  · refine gw_tableOut (t := 84) hc dX0_ofMore_1 (by omega) (Or.inl w1) (by decide) ?_
    refine gw_bipush (q := 86) hc dX0_ofMore_84 rfl (by decide) ?_
    exact gw_iret hc dX0_ofMore_86 ⟨_, rfl, ⟨by unfold ofF; rw [if_neg (by omega)]; (repeat' split) <;> omega, rfl⟩⟩
  · refine gw_tableIn (t := 40) hc dX0_ofMore_1 (by omega) (by omega) (by rw [w1]; rfl) (by decide) ?_
    refine gw_aload_n (q := 41) hc dX0_ofMore_40 rfl rfl xg_1 ?_
    refine gw_getN (q := 44) hc dX0_ofMore_41 rfl cE_ME 16 (by decide) q452 (fun _ h => h) hmt rfl ?_
    refine gw_ldc2 (q := 47) hc dX0_ofMore_44 rfl (v := 6000) q888 (by decide) ?_
    refine gw_ldiv (q := 48) hc dX0_ofMore_47 rfl ⟨by omega, by omega⟩ ⟨by omega, by omega⟩ ?_
    refine gw_l2i (q := 49) hc dX0_ofMore_48 rfl ?_
    exact gw_iret hc dX0_ofMore_49 ⟨_, rfl, ⟨by unfold ofF; rw [if_neg (by omega)]; (repeat' split) <;> omega, rfl⟩⟩
  · refine gw_tableIn (t := 50) hc dX0_ofMore_1 (by omega) (by omega) (by rw [w1]; rfl) (by decide) ?_
    refine gw_aload_n (q := 51) hc dX0_ofMore_50 rfl rfl xg_1 ?_
    refine gw_getN (q := 54) hc dX0_ofMore_51 rfl cE_ME 14 (by decide) q447 (fun _ h => h) hmt rfl ?_
    exact gw_iret hc dX0_ofMore_54 ⟨_, rfl, ⟨by unfold ofF; rw [if_neg (by omega)]; (repeat' split) <;> omega, rfl⟩⟩
  · refine gw_tableIn (t := 55) hc dX0_ofMore_1 (by omega) (by omega) (by rw [w1]; rfl) (by decide) ?_
    refine gw_aload_n (q := 56) hc dX0_ofMore_55 rfl rfl xg_1 ?_
    refine gw_getN (q := 59) hc dX0_ofMore_56 rfl cE_ME 15 (by decide) q450 (fun _ h => h) hmt rfl ?_
    refine gw_if_eq  (q := 62) (t := 66) hc dX0_ofMore_59 rfl (by decide) (by omega) (fun c59 => ?_) (fun c59 => ?_)
    · skip
      refine gw_iconst (q := 67) hc dX0_ofMore_66 rfl ?_
      exact gw_iret hc dX0_ofMore_67 ⟨_, rfl, ⟨by unfold ofF; rw [if_neg (by omega)]; (repeat' split) <;> omega, rfl⟩⟩
    · skip
      refine gw_iconst (q := 63) hc dX0_ofMore_62 rfl ?_
      refine gw_goto (q := 67) hc dX0_ofMore_63 (by decide) ?_
      exact gw_iret hc dX0_ofMore_67 ⟨_, rfl, ⟨by unfold ofF; rw [if_neg (by omega)]; (repeat' split) <;> omega, rfl⟩⟩
  · refine gw_tableIn (t := 68) hc dX0_ofMore_1 (by omega) (by omega) (by rw [w1]; rfl) (by decide) ?_
    refine gw_aload_n (q := 69) hc dX0_ofMore_68 rfl rfl xg_1 ?_
    refine gw_getN (q := 72) hc dX0_ofMore_69 rfl cE_ME 12 (by decide) q441 (fun _ h => h) hmt rfl ?_
    exact gw_iret hc dX0_ofMore_72 ⟨_, rfl, ⟨by unfold ofF; rw [if_neg (by omega)]; (repeat' split) <;> omega, rfl⟩⟩
  · refine gw_tableIn (t := 73) hc dX0_ofMore_1 (by omega) (by omega) (by rw [w1]; rfl) (by decide) ?_
    refine gw_aload_n (q := 74) hc dX0_ofMore_73 rfl rfl xg_0 ?_
    refine gw_aload_n (q := 75) hc dX0_ofMore_74 rfl rfl xg_1 ?_
    refine gw_callV (q := 78) (bc' := 0) (bs' := 0) (As := [_]) hc dX0_ofMore_75 rfl q889 mw_X0_untilWeaker (rc_o hc cE_ED hC.1.1) rfl rfl (m_X0_untilWeaker hC hW hk7) ⟨Nat.le_of_ble_eq_true rfl, Nat.le_of_ble_eq_true rfl⟩ (Nat.le_of_ble_eq_true rfl) (Nat.le_of_ble_eq_true rfl) (Nat.le_of_ble_eq_true rfl) (goI fun r75 G75 h75 => ?_)
    obtain ⟨er75, hgg⟩ := h75
    rw [hgg, er75]
    exact gw_iret hc dX0_ofMore_78 ⟨_, rfl, ⟨by unfold ofF; rw [if_neg (by omega)]; (repeat' split) <;> omega, rfl⟩⟩
  · refine gw_tableIn (t := 79) hc dX0_ofMore_1 (by omega) (by omega) (by rw [w1]; rfl) (by decide) ?_
    refine gw_aload_n (q := 80) hc dX0_ofMore_79 rfl rfl xg_1 ?_
    refine gw_getN (q := 83) hc dX0_ofMore_80 rfl cE_ME 13 (by decide) q444 (fun _ h => h) hmt rfl ?_
    exact gw_iret hc dX0_ofMore_83 ⟨_, rfl, ⟨by unfold ofF; rw [if_neg (by omega)]; (repeat' split) <;> omega, rfl⟩⟩
  · refine gw_tableOut (t := 84) hc dX0_ofMore_1 (by omega) (Or.inr w1) (by decide) ?_
    refine gw_bipush (q := 86) hc dX0_ofMore_84 rfl (by decide) ?_
    exact gw_iret hc dX0_ofMore_86 ⟨_, rfl, ⟨by unfold ofF; rw [if_neg (by omega)]; (repeat' split) <;> omega, rfl⟩⟩

theorem mw_X0_ofMore : mV "EnergyDiscs" yX0_ofMore cX0_ofMore 3 (some FieldType.int) 2 := ⟨⟨rfl, by decide +kernel, by decide +kernel, by decide +kernel⟩, q886, qs22, q73, q887⟩
set_option maxHeartbeats 4000000 in
theorem m_X0_of {l : Launch} {D : va_G} {X : Nat → Nat} {b0 : Nat} {tg : Nat → Nat} {e nid pl sv pd : Nat} {h : Int → Nat} {A : Int → Nat → Nat} {S P L V Pd : Int → Int} {kn ln N : Int} {G : gM} (hC : edC D X tg e nid pl sv pd h A S P kn L V Pd ln G) (hW : rowW S N) (hn : nid < 890) {m x : Int} (hm : rI m) (hx : rI x) : gMet l D X b0 yX0_of cX0_of 4 (some FieldType.int) (rmE 12 0 0) [.ref e, .int (iI m), .int (iI x)] G (pI fun r G' => r = ofF S m x ∧ ∃ tg' : Nat → Nat, frE tg tg' G G' ∧ edR D X tg' e nid S P kn L V Pd ln G') := by
  refine gm_start (own := "EnergyDiscs") (lv := [some (.ref e), some (.int (iI m)), some (.int (iI x)), none]) (by decide +kernel) rfl (Nat.le_of_ble_eq_true rfl) rfl (fun p_ e_ s_ m_ args_ below_ meth_ c_ hc hnm => ?_)
  obtain ⟨hlt, W, hH⟩ := ed_H hC
  obtain ⟨mcm, arm, hmcm, hMc, hMa, -⟩ := alR_P hH.2.2.2.2.1
  obtain ⟨mcl, arl, hmcl, hLc, hLa, -⟩ := alR_P hH.2.2.2.2.2.1
  have hb := hH.1
  refine gw_aload_n (q := 1) hc dX0_of_0 rfl rfl xg_0 ?_
  refine gw_iload_n (q := 2) hc dX0_of_1 rfl rfl xg_1 ?_
  refine gw_callV (q := 5) (bc' := 0) (bs' := 0) (As := [_]) hc dX0_of_2 rfl q548 mw_X0_isMeter (rc_o hc cE_ED hC.1.1) rfl rfl (m_X0_isMeter hC hm) ⟨Nat.le_of_ble_eq_true rfl, Nat.le_of_ble_eq_true rfl⟩ (Nat.le_of_ble_eq_true rfl) (Nat.le_of_ble_eq_true rfl) (Nat.le_of_ble_eq_true rfl) (goI fun r2 G2 h2 => ?_)
  obtain ⟨b2, hgg⟩ := h2
  rw [hgg]
  refine gw_if_ne  (q := 8) (t := 10) hc dX0_of_5 rfl (by decide) (by omega) (fun c5 => ?_) (fun c5 => ?_)
  · obtain ⟨k, rfl⟩ : ∃ k : Nat, m = k := ⟨m.toNat, by omega⟩
    have hk7 : (k : Int) < S 7 := by omega
    have hmt := (hH.2.2.2.2.2.2.1 k hk7).1
    have hmw := rm_k hW k hk7
    refine gw_aload_n (q := 11) hc dX0_of_10 rfl rfl xg_0 ?_
    refine gw_get (q := 14) hc dX0_of_11 rfl cE_ED 0 (by decide) q198 (fun _ h => h) hC.1.1 rfl ?_
    refine gw_callV (q := 17) (bc' := 0) (bs' := 0) (As := []) hc dX0_of_14 rfl q883 mw_X1_layPowers (rc_o hc cE_HO hH.2.2.1) rfl rfl (m_X1_layPowers hH hW) ⟨Nat.le_of_ble_eq_true rfl, Nat.le_of_ble_eq_true rfl⟩ (Nat.le_of_ble_eq_true rfl) (Nat.le_of_ble_eq_true rfl) (Nat.le_of_ble_eq_true rfl) (goV fun G14 h14 => ?_)
    obtain ⟨W3, hH3, hWp, hfr3⟩ := h14
    have hC3 := ed_nowW hC (tgW_H hfr3) hH3 rfl (by omega)
    have hmt3 := (hH3.2.2.2.2.2.2.1 k hk7).1
    have hpk := hWp k hk7
    refine gw_aload_n (q := 18) hc dX0_of_17 rfl rfl xg_0 ?_
    refine gw_iload_n (q := 19) hc dX0_of_18 rfl rfl xg_1 ?_
    refine gw_callV (q := 22) (bc' := 0) (bs' := 0) (As := [_]) hc dX0_of_19 rfl q599 mw_X0_meterAt (rc_o hc cE_ED hC3.1.1) rfl rfl (m_X0_meterAt hC3 hk7) ⟨Nat.le_of_ble_eq_true rfl, Nat.le_of_ble_eq_true rfl⟩ (Nat.le_of_ble_eq_true rfl) (Nat.le_of_ble_eq_true rfl) (Nat.le_of_ble_eq_true rfl) (goA fun r19 G19 h19 => ?_)
    obtain ⟨er19, hgg⟩ := h19
    rw [hgg, er19]
    refine gw_astore_n (q := 23) hc dX0_of_22 rfl rfl xs_3 (by decide) (n2p xg_2 rfl) ?_
    refine gw_iload_n (q := 24) hc dX0_of_23 rfl rfl xg_2 ?_
    rcases (by omega : x < 0 ∨ x = 0 ∨ x = 1 ∨ x = 2 ∨ x = 3 ∨ x = 4 ∨ x = 5 ∨ 5 < x) with w24 | w24 | w24 | w24 | w24 | w24 | w24 | w24
    · refine gw_tableOut (t := 109) hc dX0_of_24 (by omega) (Or.inl w24) (by decide) ?_
      refine gw_aload_n (q := 110) hc dX0_of_109 rfl rfl xg_0 ?_
      refine gw_aload_n (q := 111) hc dX0_of_110 rfl rfl xg_3 ?_
      refine gw_iload_n (q := 112) hc dX0_of_111 rfl rfl xg_2 ?_
      refine gw_callV (q := 115) (bc' := 0) (bs' := 0) (As := [_, _]) hc dX0_of_112 rfl q884 mw_X0_ofMore (rc_o hc cE_ED hC3.1.1) rfl rfl (m_X0_ofMore hC3 hW hk7 hx (by omega)) ⟨Nat.le_of_ble_eq_true rfl, Nat.le_of_ble_eq_true rfl⟩ (Nat.le_of_ble_eq_true rfl) (Nat.le_of_ble_eq_true rfl) (Nat.le_of_ble_eq_true rfl) (goI fun r112 G112 h112 => ?_)
      obtain ⟨er112, hgg⟩ := h112
      rw [hgg, er112]
      exact gw_iret hc dX0_of_115 ⟨_, rfl, ⟨rfl, tg, frE_w (tgW_H hfr3) (by omega), pl, sv, pd, _, _, hC3⟩⟩
    · refine gw_tableIn (t := 64) hc dX0_of_24 (by omega) (by omega) (by rw [w24]; rfl) (by decide) ?_
      rcases Nat.eq_zero_or_pos k with hk0 | hk0
      · have hmt4 : G14 (A (-1) (10 + k)) = some (mtO k .null (A (-1) (20 + k)) (A (-1) (40 + k)) (W3 k) (S (11 + 13 * (k : Int) + 1)) (S (11 + 13 * (k : Int) + 2)) (S (11 + 13 * (k : Int) + 9)) (S (11 + 13 * (k : Int) + 3)) (S (11 + 13 * (k : Int) + 4)) (S (11 + 13 * (k : Int) + 11)) (S (11 + 13 * (k : Int) + 12)) (S (11 + 13 * (k : Int) + 8)) (S (11 + 13 * (k : Int) + 10)) (S (11 + 13 * (k : Int) + 6)) (S (11 + 13 * (k : Int) + 7)) (S (11 + 13 * (k : Int) + 5))) := by rw [hmt3]; unfold mtC thV; rw [if_pos hk0]
        have hp11 : S (11 + 13 * (k : Int)) = -1 := by rw [hk0]; exact hW.2.2.1 (by omega)
        refine gw_aload_n (q := 65) hc dX0_of_64 rfl rfl xg_3 ?_
        refine gw_getN (q := 68) hc dX0_of_65 rfl cE_ME 1 (by decide) q414 (fun _ h => h) hmt4 rfl ?_
        refine gw_ifnonnullN (q := 71) hc dX0_of_68 rfl ?_
        refine gw_bipush (q := 73) hc dX0_of_71 rfl (by decide) ?_
        refine gw_goto (q := 83) hc dX0_of_73 (by decide) ?_
        exact gw_iret hc dX0_of_83 ⟨_, rfl, ⟨by unfold ofF; rw [if_neg (by omega)]; (repeat' split) <;> omega, tg, frE_w (tgW_H hfr3) (by omega), pl, sv, pd, _, _, hC3⟩⟩
      · have htr := hW.1.1.2 (k : Int) (by omega) (by omega)
        obtain ⟨tt, htt⟩ : ∃ tt : Nat, S (11 + 13 * (k : Int)) = tt := ⟨(S (11 + 13 * (k : Int))).toNat, by omega⟩
        have hmt4 : G14 (A (-1) (10 + k)) = some (mtO k (.ref (A (-1) (10 + tt))) (A (-1) (20 + k)) (A (-1) (40 + k)) (W3 k) (S (11 + 13 * (k : Int) + 1)) (S (11 + 13 * (k : Int) + 2)) (S (11 + 13 * (k : Int) + 9)) (S (11 + 13 * (k : Int) + 3)) (S (11 + 13 * (k : Int) + 4)) (S (11 + 13 * (k : Int) + 11)) (S (11 + 13 * (k : Int) + 12)) (S (11 + 13 * (k : Int) + 8)) (S (11 + 13 * (k : Int) + 10)) (S (11 + 13 * (k : Int) + 6)) (S (11 + 13 * (k : Int) + 7)) (S (11 + 13 * (k : Int) + 5))) := by rw [hmt3]; unfold mtC thV; rw [if_neg (by omega), htt, Int.toNat_natCast]
        have hth := (hH3.2.2.2.2.2.2.1 tt (by omega)).1
        refine gw_aload_n (q := 65) hc dX0_of_64 rfl rfl xg_3 ?_
        refine gw_getN (q := 68) hc dX0_of_65 rfl cE_ME 1 (by decide) q414 (fun _ h => h) hmt4 rfl ?_
        refine gw_ifnonnull (t := 76) hc dX0_of_68 (by decide) ?_
        refine gw_aload_n (q := 77) hc dX0_of_76 rfl rfl xg_3 ?_
        refine gw_getN (q := 80) hc dX0_of_77 rfl cE_ME 1 (by decide) q414 (fun _ h => h) hmt4 rfl ?_
        refine gw_getN (q := 83) hc dX0_of_80 rfl cE_ME 0 (by decide) q411 (fun _ h => h) hth rfl ?_
        exact gw_iret hc dX0_of_83 ⟨_, rfl, ⟨by unfold ofF; rw [if_neg (by omega)]; (repeat' split) <;> omega, tg, frE_w (tgW_H hfr3) (by omega), pl, sv, pd, _, _, hC3⟩⟩
    · refine gw_tableIn (t := 84) hc dX0_of_24 (by omega) (by omega) (by rw [w24]; rfl) (by decide) ?_
      refine gw_aload_n (q := 85) hc dX0_of_84 rfl rfl xg_3 ?_
      refine gw_getN (q := 88) hc dX0_of_85 rfl cE_ME 4 (by decide) q420 (fun _ h => h) hmt3 rfl ?_
      exact gw_iret hc dX0_of_88 ⟨_, rfl, ⟨by unfold ofF; rw [if_neg (by omega)]; (repeat' split) <;> omega, tg, frE_w (tgW_H hfr3) (by omega), pl, sv, pd, _, _, hC3⟩⟩
    · refine gw_tableIn (t := 89) hc dX0_of_24 (by omega) (by omega) (by rw [w24]; rfl) (by decide) ?_
      refine gw_aload_n (q := 90) hc dX0_of_89 rfl rfl xg_3 ?_
      refine gw_getN (q := 93) hc dX0_of_90 rfl cE_ME 5 (by decide) q422 (fun _ h => h) hmt3 rfl ?_
      exact gw_iret hc dX0_of_93 ⟨_, rfl, ⟨by unfold ofF; rw [if_neg (by omega)]; (repeat' split) <;> omega, tg, frE_w (tgW_H hfr3) (by omega), pl, sv, pd, _, _, hC3⟩⟩
    · refine gw_tableIn (t := 94) hc dX0_of_24 (by omega) (by omega) (by rw [w24]; rfl) (by decide) ?_
      refine gw_aload_n (q := 95) hc dX0_of_94 rfl rfl xg_3 ?_
      refine gw_getN (q := 98) hc dX0_of_95 rfl cE_ME 6 (by decide) q425 (fun _ h => h) hmt3 rfl ?_
      exact gw_iret hc dX0_of_98 ⟨_, rfl, ⟨by unfold ofF; rw [if_neg (by omega)]; (repeat' split) <;> omega, tg, frE_w (tgW_H hfr3) (by omega), pl, sv, pd, _, _, hC3⟩⟩
    · refine gw_tableIn (t := 99) hc dX0_of_24 (by omega) (by omega) (by rw [w24]; rfl) (by decide) ?_
      refine gw_aload_n (q := 100) hc dX0_of_99 rfl rfl xg_3 ?_
      refine gw_getN (q := 103) hc dX0_of_100 rfl cE_ME 8 (by decide) q431 (fun _ h => h) hmt3 rfl ?_
      exact gw_iret hc dX0_of_103 ⟨_, rfl, ⟨by unfold ofF; rw [if_neg (by omega)]; (repeat' split) <;> omega, tg, frE_w (tgW_H hfr3) (by omega), pl, sv, pd, _, _, hC3⟩⟩
    · refine gw_tableIn (t := 104) hc dX0_of_24 (by omega) (by omega) (by rw [w24]; rfl) (by decide) ?_
      refine gw_aload_n (q := 105) hc dX0_of_104 rfl rfl xg_3 ?_
      refine gw_getN (q := 108) hc dX0_of_105 rfl cE_ME 9 (by decide) q434 (fun _ h => h) hmt3 rfl ?_
      exact gw_iret hc dX0_of_108 ⟨_, rfl, ⟨by unfold ofF; rw [if_neg (by omega)]; (repeat' split) <;> omega, tg, frE_w (tgW_H hfr3) (by omega), pl, sv, pd, _, _, hC3⟩⟩
    · refine gw_tableOut (t := 109) hc dX0_of_24 (by omega) (Or.inr w24) (by decide) ?_
      refine gw_aload_n (q := 110) hc dX0_of_109 rfl rfl xg_0 ?_
      refine gw_aload_n (q := 111) hc dX0_of_110 rfl rfl xg_3 ?_
      refine gw_iload_n (q := 112) hc dX0_of_111 rfl rfl xg_2 ?_
      refine gw_callV (q := 115) (bc' := 0) (bs' := 0) (As := [_, _]) hc dX0_of_112 rfl q884 mw_X0_ofMore (rc_o hc cE_ED hC3.1.1) rfl rfl (m_X0_ofMore hC3 hW hk7 hx (by omega)) ⟨Nat.le_of_ble_eq_true rfl, Nat.le_of_ble_eq_true rfl⟩ (Nat.le_of_ble_eq_true rfl) (Nat.le_of_ble_eq_true rfl) (Nat.le_of_ble_eq_true rfl) (goI fun r112 G112 h112 => ?_)
      obtain ⟨er112, hgg⟩ := h112
      rw [hgg, er112]
      exact gw_iret hc dX0_of_115 ⟨_, rfl, ⟨rfl, tg, frE_w (tgW_H hfr3) (by omega), pl, sv, pd, _, _, hC3⟩⟩
  · skip
    refine gw_iconst (q := 9) hc dX0_of_8 rfl ?_
    exact gw_iret hc dX0_of_9 ⟨_, rfl, ⟨by unfold ofF; rw [if_pos (by omega)], tg, frE_rf, pl, sv, pd, h, A, hC⟩⟩

set_option maxHeartbeats 4000000 in
theorem m_X0_ofLoad {l : Launch} {D : va_G} {X : Nat → Nat} {b0 : Nat} {tg : Nat → Nat} {e nid pl sv pd : Nat} {h : Int → Nat} {A : Int → Nat → Nat} {S P L V Pd : Int → Int} {kn ln N : Int} {G : gM} (hC : edC D X tg e nid pl sv pd h A S P kn L V Pd ln G) (hW : rowW S N) {j x : Int} (hj : rI j) (hx : rI x) : gMet l D X b0 yX0_ofLoad cX0_ofLoad 4 (some FieldType.int) (rmE 3 0 0) [.ref e, .int (iI j), .int (iI x)] G (eI (olF S j x) G) := by
  refine gm_start (own := "EnergyDiscs") (lv := [some (.ref e), some (.int (iI j)), some (.int (iI x)), none]) (by decide +kernel) rfl (Nat.le_of_ble_eq_true rfl) rfl (fun p_ e_ s_ m_ args_ below_ meth_ c_ hc hnm => ?_)
  obtain ⟨hlt, W, hH⟩ := ed_H hC
  obtain ⟨mcm, arm, hmcm, hMc, hMa, -⟩ := alR_P hH.2.2.2.2.1
  obtain ⟨mcl, arl, hmcl, hLc, hLa, -⟩ := alR_P hH.2.2.2.2.2.1
  have hb := hH.1
  refine gw_aload_n (q := 1) hc dX0_ofLoad_0 rfl rfl xg_0 ?_
  refine gw_iload_n (q := 2) hc dX0_ofLoad_1 rfl rfl xg_1 ?_
  refine gw_callV (q := 5) (bc' := 0) (bs' := 0) (As := [_]) hc dX0_ofLoad_2 rfl q581 mw_X0_isLoad (rc_o hc cE_ED hC.1.1) rfl rfl (m_X0_isLoad hC hj) ⟨Nat.le_of_ble_eq_true rfl, Nat.le_of_ble_eq_true rfl⟩ (Nat.le_of_ble_eq_true rfl) (Nat.le_of_ble_eq_true rfl) (Nat.le_of_ble_eq_true rfl) (goI fun r2 G2 h2 => ?_)
  obtain ⟨b2, hgg⟩ := h2
  rw [hgg]
  refine gw_if_ne  (q := 8) (t := 10) hc dX0_ofLoad_5 rfl (by decide) (by omega) (fun c5 => ?_) (fun c5 => ?_)
  · obtain ⟨k, rfl⟩ : ∃ k : Nat, j = k := ⟨j.toNat, by omega⟩
    have hk8 : (k : Int) < S 8 := by omega
    have hlo := hH.2.2.2.2.2.2.2 k hk8
    have hlw := hW.1.2.1.2 (k : Int) (by omega) hk8
    obtain ⟨cap, f, hA1, hf1b, hb1, hfi⟩ := alP_get hLa (i := (k : Int)) (by omega) (by omega)
    refine gw_aload_n (q := 11) hc dX0_ofLoad_10 rfl rfl xg_0 ?_
    refine gw_get (q := 14) hc dX0_ofLoad_11 rfl cE_ED 0 (by decide) q198 (fun _ h => h) hC.1.1 rfl ?_
    refine gw_getN (q := 17) hc dX0_ofLoad_14 rfl cE_HO 2 (by decide) q147 (fun _ h => h) hH.2.2.1 rfl ?_
    refine gw_iload_n (q := 18) hc dX0_ofLoad_17 rfl rfl xg_1 ?_
    refine gw_callF (q := 23) (bc' := 0) (bs' := 0) (As := [_]) hc dX0_ofLoad_18 rfl cE_AL q586 mf_J2_get_7 rfl rfl (m_J2_get hLc hA1 (by omega) (by omega) hfi) (rc_o hc cE_AL hLc) ⟨Nat.le_of_ble_eq_true rfl, Nat.le_of_ble_eq_true rfl⟩ (Nat.le_of_ble_eq_true rfl) (Nat.le_of_ble_eq_true rfl) (Nat.le_of_ble_eq_true rfl) (goA fun r18 G18 h18 => ?_)
    obtain ⟨er18, hgg⟩ := h18
    have er18b : r18 = A (-1) (60 + k) := by rw [er18]; show A (-1) (60 + (k : Int).toNat) = _; rw [Int.toNat_natCast]
    rw [hgg, er18b]
    refine gw_cast (q := 26) hc dX0_ofLoad_23 rfl q570 (rc_o hc cE_LO hlo) ?_
    refine gw_astore_n (q := 27) hc dX0_ofLoad_26 rfl rfl xs_3 (by decide) (n2p xg_2 rfl) ?_
    refine gw_iload_n (q := 28) hc dX0_ofLoad_27 rfl rfl xg_2 ?_
    refine gw_if_ne  (q := 31) (t := 38) hc dX0_ofLoad_28 rfl (by decide) (by omega) (fun c28 => ?_) (fun c28 => ?_)
    · skip
      refine gw_iload_n (q := 39) hc dX0_ofLoad_38 rfl rfl xg_2 ?_
      refine gw_iconst (q := 40) hc dX0_ofLoad_39 rfl ?_
      refine gw_icmp_ne  (q := 43) (t := 50) hc dX0_ofLoad_40 rfl (by decide) (by omega) (by omega) (fun c40 => ?_) (fun c40 => ?_)
      · skip
        refine gw_iload_n (q := 51) hc dX0_ofLoad_50 rfl rfl xg_2 ?_
        refine gw_iconst (q := 52) hc dX0_ofLoad_51 rfl ?_
        refine gw_icmp_ne  (q := 55) (t := 70) hc dX0_ofLoad_52 rfl (by decide) (by omega) (by omega) (fun c52 => ?_) (fun c52 => ?_)
        · skip
          refine gw_bipush (q := 72) hc dX0_ofLoad_70 rfl (by decide) ?_
          exact gw_iret hc dX0_ofLoad_72 ⟨_, rfl, ⟨by unfold olF; rw [if_neg (by omega), if_neg (by omega)], rfl⟩⟩
        · skip
          refine gw_aload_n (q := 56) hc dX0_ofLoad_55 rfl rfl xg_3 ?_
          refine gw_getN (q := 59) hc dX0_ofLoad_56 rfl cE_LO 2 (by decide) q513 (fun _ h => h) hlo rfl ?_
          refine gw_if_eq  (q := 62) (t := 66) hc dX0_ofLoad_59 rfl (by decide) (by omega) (fun c59 => ?_) (fun c59 => ?_)
          · skip
            refine gw_iconst (q := 67) hc dX0_ofLoad_66 rfl ?_
            refine gw_goto (q := 72) hc dX0_ofLoad_67 (by decide) ?_
            exact gw_iret hc dX0_ofLoad_72 ⟨_, rfl, ⟨by unfold olF; rw [if_neg (by omega), if_pos (by omega), c52]; omega, rfl⟩⟩
          · skip
            refine gw_iconst (q := 63) hc dX0_ofLoad_62 rfl ?_
            refine gw_goto (q := 72) hc dX0_ofLoad_63 (by decide) ?_
            exact gw_iret hc dX0_ofLoad_72 ⟨_, rfl, ⟨by unfold olF; rw [if_neg (by omega), if_pos (by omega), c52]; omega, rfl⟩⟩
      · skip
        refine gw_aload_n (q := 44) hc dX0_ofLoad_43 rfl rfl xg_3 ?_
        refine gw_getN (q := 47) hc dX0_ofLoad_44 rfl cE_LO 0 (by decide) q507 (fun _ h => h) hlo rfl ?_
        refine gw_goto (q := 72) hc dX0_ofLoad_47 (by decide) ?_
        exact gw_iret hc dX0_ofLoad_72 ⟨_, rfl, ⟨by unfold olF; rw [if_neg (by omega), if_pos (by omega), c40], rfl⟩⟩
    · skip
      refine gw_aload_n (q := 32) hc dX0_ofLoad_31 rfl rfl xg_3 ?_
      refine gw_getN (q := 35) hc dX0_ofLoad_32 rfl cE_LO 1 (by decide) q510 (fun _ h => h) hlo rfl ?_
      refine gw_goto (q := 72) hc dX0_ofLoad_35 (by decide) ?_
      exact gw_iret hc dX0_ofLoad_72 ⟨_, rfl, ⟨by unfold olF; rw [if_neg (by omega), if_pos (by omega), c28, Int.add_zero], rfl⟩⟩
  · skip
    refine gw_iconst (q := 9) hc dX0_ofLoad_8 rfl ?_
    exact gw_iret hc dX0_ofLoad_9 ⟨_, rfl, ⟨by unfold olF; rw [if_pos (by omega)], rfl⟩⟩

set_option maxHeartbeats 4000000 in
theorem m_X0_misses {l : Launch} {D : va_G} {X : Nat → Nat} {b0 : Nat} {tg : Nat → Nat} {e nid pl sv pd : Nat} {h : Int → Nat} {A : Int → Nat → Nat} {S P L V Pd : Int → Int} {kn ln N : Int} {G : gM} (hC : edC D X tg e nid pl sv pd h A S P kn L V Pd ln G) (hW : rowW S N) {m : Int} (hm : rI m) : gMet l D X b0 yX0_misses cX0_misses 2 (some FieldType.long) (rmE 4 0 0) [.ref e, .int (iI m)] G (eJ (if 0 ≤ m ∧ m < S 7 then msF S m else -1) G) := by
  refine gm_start (own := "EnergyDiscs") (lv := [some (.ref e), some (.int (iI m))]) (by decide +kernel) rfl (Nat.le_of_ble_eq_true rfl) rfl (fun p_ e_ s_ m_ args_ below_ meth_ c_ hc hnm => ?_)
  obtain ⟨hlt, W, hH⟩ := ed_H hC
  obtain ⟨mcm, arm, hmcm, hMc, hMa, -⟩ := alR_P hH.2.2.2.2.1
  obtain ⟨mcl, arl, hmcl, hLc, hLa, -⟩ := alR_P hH.2.2.2.2.2.1
  have hb := hH.1
  refine gw_aload_n (q := 1) hc dX0_misses_0 rfl rfl xg_0 ?_
  refine gw_iload_n (q := 2) hc dX0_misses_1 rfl rfl xg_1 ?_
  refine gw_callV (q := 5) (bc' := 0) (bs' := 0) (As := [_]) hc dX0_misses_2 rfl q548 mw_X0_isMeter (rc_o hc cE_ED hC.1.1) rfl rfl (m_X0_isMeter hC hm) ⟨Nat.le_of_ble_eq_true rfl, Nat.le_of_ble_eq_true rfl⟩ (Nat.le_of_ble_eq_true rfl) (Nat.le_of_ble_eq_true rfl) (Nat.le_of_ble_eq_true rfl) (goI fun r2 G2 h2 => ?_)
  obtain ⟨b2, hgg⟩ := h2
  rw [hgg]
  refine gw_if_eq  (q := 8) (t := 23) hc dX0_misses_5 rfl (by decide) (by omega) (fun c5 => ?_) (fun c5 => ?_)
  · skip
    refine gw_ldc2 (q := 26) hc dX0_misses_23 rfl (v := -1) q912 (by decide) ?_
    exact gw_lret hc dX0_misses_26 ⟨_, rfl, ⟨by rw [if_neg (by omega)], rfl⟩⟩
  · obtain ⟨k, rfl⟩ : ∃ k : Nat, m = k := ⟨m.toNat, by omega⟩
    have hk7 : (k : Int) < S 7 := by omega
    have hmt := (hH.2.2.2.2.2.2.1 k hk7).1
    have hmw := rm_k hW k hk7
    refine gw_ldc2 (q := 11) hc dX0_misses_8 rfl (v := 10000000000) q902 (by decide) ?_
    refine gw_aload_n (q := 12) hc dX0_misses_11 rfl rfl xg_0 ?_
    refine gw_iload_n (q := 13) hc dX0_misses_12 rfl rfl xg_1 ?_
    refine gw_callV (q := 16) (bc' := 0) (bs' := 0) (As := [_]) hc dX0_misses_13 rfl q599 mw_X0_meterAt (rc_o hc cE_ED hC.1.1) rfl rfl (m_X0_meterAt hC (by omega)) ⟨Nat.le_of_ble_eq_true rfl, Nat.le_of_ble_eq_true rfl⟩ (Nat.le_of_ble_eq_true rfl) (Nat.le_of_ble_eq_true rfl) (Nat.le_of_ble_eq_true rfl) (goA fun r13 G13 h13 => ?_)
    obtain ⟨er13, hgg⟩ := h13
    rw [hgg, er13]
    refine gw_callV (q := 19) (bc' := 0) (bs' := 0) (As := []) hc dX0_misses_16 rfl q903 mw_X3_misses (rc_o hc cE_ME hmt) rfl rfl (m_X3_misses hmt ⟨by omega, by omega⟩ ⟨by omega, by omega⟩) ⟨Nat.le_of_ble_eq_true rfl, Nat.le_of_ble_eq_true rfl⟩ (Nat.le_of_ble_eq_true rfl) (Nat.le_of_ble_eq_true rfl) (Nat.le_of_ble_eq_true rfl) (goJ fun r16 G16 h16 => ?_)
    obtain ⟨er16, hgg⟩ := h16
    rw [hgg, er16]
    refine gw_ladd (q := 20) hc dX0_misses_19 rfl ?_
    refine gw_goto (q := 26) hc dX0_misses_20 (by decide) ?_
    exact gw_lret hc dX0_misses_26 ⟨_, rfl, ⟨by rw [if_pos (by omega)]; unfold msF tnF; omega, rfl⟩⟩

set_option maxHeartbeats 4000000 in
theorem m_X0_fed {l : Launch} {D : va_G} {X : Nat → Nat} {b0 : Nat} {tg : Nat → Nat} {e nid pl sv pd : Nat} {h : Int → Nat} {A : Int → Nat → Nat} {S P L V Pd : Int → Int} {kn ln N : Int} {G : gM} (hC : edC D X tg e nid pl sv pd h A S P kn L V Pd ln G) (hW : rowW S N) {m : Int} (hm : rI m) : gMet l D X b0 yX0_fed cX0_fed 2 (some FieldType.int) (rmE 11 0 0) [.ref e, .int (iI m)] G (eI (fdF S m (S 7).toNat) G) := by
  refine gm_start (own := "EnergyDiscs") (lv := [some (.ref e), some (.int (iI m))]) (by decide +kernel) rfl (Nat.le_of_ble_eq_true rfl) rfl (fun p_ e_ s_ m_ args_ below_ meth_ c_ hc hnm => ?_)
  obtain ⟨hlt, W, hH⟩ := ed_H hC
  obtain ⟨mcm, arm, hmcm, hMc, hMa, -⟩ := alR_P hH.2.2.2.2.1
  obtain ⟨mcl, arl, hmcl, hLc, hLa, -⟩ := alR_P hH.2.2.2.2.2.1
  have hb := hH.1
  refine gw_aload_n (q := 1) hc dX0_fed_0 rfl rfl xg_0 ?_
  refine gw_iload_n (q := 2) hc dX0_fed_1 rfl rfl xg_1 ?_
  refine gw_callV (q := 5) (bc' := 0) (bs' := 0) (As := [_]) hc dX0_fed_2 rfl q548 mw_X0_isMeter (rc_o hc cE_ED hC.1.1) rfl rfl (m_X0_isMeter hC hm) ⟨Nat.le_of_ble_eq_true rfl, Nat.le_of_ble_eq_true rfl⟩ (Nat.le_of_ble_eq_true rfl) (Nat.le_of_ble_eq_true rfl) (Nat.le_of_ble_eq_true rfl) (goI fun r2 G2 h2 => ?_)
  obtain ⟨b2, hgg⟩ := h2
  rw [hgg]
  refine gw_if_eq  (q := 8) (t := 19) hc dX0_fed_5 rfl (by decide) (by omega) (fun c5 => ?_) (fun c5 => ?_)
  · skip
    refine gw_iconst (q := 20) hc dX0_fed_19 rfl ?_
    exact gw_iret hc dX0_fed_20 ⟨_, rfl, ⟨by unfold fdF; rw [if_neg (by omega)], rfl⟩⟩
  · obtain ⟨k, rfl⟩ : ∃ k : Nat, m = k := ⟨m.toNat, by omega⟩
    have hk7 : (k : Int) < S 7 := by omega
    have hmt := (hH.2.2.2.2.2.2.1 k hk7).1
    have hmw := rm_k hW k hk7
    refine gw_aload_n (q := 9) hc dX0_fed_8 rfl rfl xg_0 ?_
    refine gw_iload_n (q := 10) hc dX0_fed_9 rfl rfl xg_1 ?_
    refine gw_callV (q := 13) (bc' := 0) (bs' := 0) (As := [_]) hc dX0_fed_10 rfl q599 mw_X0_meterAt (rc_o hc cE_ED hC.1.1) rfl rfl (m_X0_meterAt hC (by omega)) ⟨Nat.le_of_ble_eq_true rfl, Nat.le_of_ble_eq_true rfl⟩ (Nat.le_of_ble_eq_true rfl) (Nat.le_of_ble_eq_true rfl) (Nat.le_of_ble_eq_true rfl) (goA fun r10 G10 h10 => ?_)
    obtain ⟨er10, hgg⟩ := h10
    rw [hgg, er10]
    refine gw_callV (q := 16) (bc' := 0) (bs' := 0) (As := []) hc dX0_fed_13 rfl q917 mw_X3_fed (rc_o hc cE_ME hmt) rfl rfl (m_X3_fed hW hH 7 k (by omega) hk7) ⟨Nat.le_of_ble_eq_true rfl, Nat.le_of_ble_eq_true rfl⟩ (Nat.le_of_ble_eq_true rfl) (Nat.le_of_ble_eq_true rfl) (Nat.le_of_ble_eq_true rfl) (goI fun r13 G13 h13 => ?_)
    obtain ⟨er13, hgg⟩ := h13
    rw [hgg, er13]
    refine gw_goto (q := 20) hc dX0_fed_16 (by decide) ?_
    exact gw_iret hc dX0_fed_20 ⟨_, rfl, ⟨by unfold fdF; rw [if_pos (by omega)], rfl⟩⟩

set_option maxHeartbeats 4000000 in
theorem m_X0_bill {l : Launch} {D : va_G} {X : Nat → Nat} {b0 : Nat} {tg : Nat → Nat} {e nid pl sv pd : Nat} {h : Int → Nat} {A : Int → Nat → Nat} {S P L V Pd : Int → Int} {kn ln N : Int} {G : gM} (hC : edC D X tg e nid pl sv pd h A S P kn L V Pd ln G) (hW : rowW S N) {m : Int} (hm : rI m) : gMet l D X b0 yX0_bill cX0_bill 2 (some FieldType.int) (rmE 4 0 0) [.ref e, .int (iI m)] G (eI (if 0 ≤ m ∧ m < S 7 then biF S m else -1) G) := by
  refine gm_start (own := "EnergyDiscs") (lv := [some (.ref e), some (.int (iI m))]) (by decide +kernel) rfl (Nat.le_of_ble_eq_true rfl) rfl (fun p_ e_ s_ m_ args_ below_ meth_ c_ hc hnm => ?_)
  obtain ⟨hlt, W, hH⟩ := ed_H hC
  obtain ⟨mcm, arm, hmcm, hMc, hMa, -⟩ := alR_P hH.2.2.2.2.1
  obtain ⟨mcl, arl, hmcl, hLc, hLa, -⟩ := alR_P hH.2.2.2.2.2.1
  have hb := hH.1
  refine gw_aload_n (q := 1) hc dX0_bill_0 rfl rfl xg_0 ?_
  refine gw_iload_n (q := 2) hc dX0_bill_1 rfl rfl xg_1 ?_
  refine gw_callV (q := 5) (bc' := 0) (bs' := 0) (As := [_]) hc dX0_bill_2 rfl q548 mw_X0_isMeter (rc_o hc cE_ED hC.1.1) rfl rfl (m_X0_isMeter hC hm) ⟨Nat.le_of_ble_eq_true rfl, Nat.le_of_ble_eq_true rfl⟩ (Nat.le_of_ble_eq_true rfl) (Nat.le_of_ble_eq_true rfl) (Nat.le_of_ble_eq_true rfl) (goI fun r2 G2 h2 => ?_)
  obtain ⟨b2, hgg⟩ := h2
  rw [hgg]
  refine gw_if_eq  (q := 8) (t := 23) hc dX0_bill_5 rfl (by decide) (by omega) (fun c5 => ?_) (fun c5 => ?_)
  · skip
    refine gw_iconst (q := 24) hc dX0_bill_23 rfl ?_
    exact gw_iret hc dX0_bill_24 ⟨_, rfl, ⟨by rw [if_neg (by omega)], rfl⟩⟩
  · obtain ⟨k, rfl⟩ : ∃ k : Nat, m = k := ⟨m.toNat, by omega⟩
    have hk7 : (k : Int) < S 7 := by omega
    have hmt := (hH.2.2.2.2.2.2.1 k hk7).1
    have hmw := rm_k hW k hk7
    refine gw_aload_n (q := 9) hc dX0_bill_8 rfl rfl xg_0 ?_
    refine gw_get (q := 12) hc dX0_bill_9 rfl cE_ED 0 (by decide) q198 (fun _ h => h) hC.1.1 rfl ?_
    refine gw_aload_n (q := 13) hc dX0_bill_12 rfl rfl xg_0 ?_
    refine gw_iload_n (q := 14) hc dX0_bill_13 rfl rfl xg_1 ?_
    refine gw_callV (q := 17) (bc' := 0) (bs' := 0) (As := [_]) hc dX0_bill_14 rfl q599 mw_X0_meterAt (rc_o hc cE_ED hC.1.1) rfl rfl (m_X0_meterAt hC (by omega)) ⟨Nat.le_of_ble_eq_true rfl, Nat.le_of_ble_eq_true rfl⟩ (Nat.le_of_ble_eq_true rfl) (Nat.le_of_ble_eq_true rfl) (Nat.le_of_ble_eq_true rfl) (goA fun r14 G14 h14 => ?_)
    obtain ⟨er14, hgg⟩ := h14
    rw [hgg, er14]
    refine gw_callV (q := 20) (bc' := 0) (bs' := 0) (As := [_]) hc dX0_bill_17 rfl q946 mw_X1_bill (rc_o hc cE_HO hH.2.2.1) rfl rfl (m_X1_bill hH hk7) ⟨Nat.le_of_ble_eq_true rfl, Nat.le_of_ble_eq_true rfl⟩ (Nat.le_of_ble_eq_true rfl) (Nat.le_of_ble_eq_true rfl) (Nat.le_of_ble_eq_true rfl) (goI fun r17 G17 h17 => ?_)
    obtain ⟨er17, hgg⟩ := h17
    rw [hgg, er17]
    refine gw_goto (q := 24) hc dX0_bill_20 (by decide) ?_
    exact gw_iret hc dX0_bill_24 ⟨_, rfl, ⟨by rw [if_pos (by omega)], rfl⟩⟩

theorem mw_X1_worst : mV "EnergyDiscs$House" yX1_worst cX1_worst 3 (some FieldType.int) 0 := ⟨⟨rfl, by decide +kernel, by decide +kernel, by decide +kernel⟩, q983, q984, q74, q985⟩
set_option maxHeartbeats 4000000 in
theorem m_X0_worst {l : Launch} {D : va_G} {X : Nat → Nat} {b0 : Nat} {tg : Nat → Nat} {e nid pl sv pd : Nat} {h : Int → Nat} {A : Int → Nat → Nat} {S P L V Pd : Int → Int} {kn ln N : Int} {G : gM} (hC : edC D X tg e nid pl sv pd h A S P kn L V Pd ln G) (hW : rowW S N)  : gMet l D X b0 yX0_worst cX0_worst 1 (some FieldType.int) (rmE 4 0 0) [.ref e] G (eI (woF S (S 7).toNat) G) := by
  refine gm_start (own := "EnergyDiscs") (lv := [some (.ref e)]) (by decide +kernel) rfl (Nat.le_of_ble_eq_true rfl) rfl (fun p_ e_ s_ m_ args_ below_ meth_ c_ hc hnm => ?_)
  obtain ⟨hlt, W, hH⟩ := ed_H hC
  obtain ⟨mcm, arm, hmcm, hMc, hMa, -⟩ := alR_P hH.2.2.2.2.1
  obtain ⟨mcl, arl, hmcl, hLc, hLa, -⟩ := alR_P hH.2.2.2.2.2.1
  have hb := hH.1
  refine gw_aload_n (q := 1) hc dX0_worst_0 rfl rfl xg_0 ?_
  refine gw_get (q := 4) hc dX0_worst_1 rfl cE_ED 0 (by decide) q198 (fun _ h => h) hC.1.1 rfl ?_
  refine gw_callV (q := 7) (bc' := 0) (bs' := 0) (As := []) hc dX0_worst_4 rfl q982 mw_X1_worst (rc_o hc cE_HO hH.2.2.1) rfl rfl (m_X1_worst hH hW) ⟨Nat.le_of_ble_eq_true rfl, Nat.le_of_ble_eq_true rfl⟩ (Nat.le_of_ble_eq_true rfl) (Nat.le_of_ble_eq_true rfl) (Nat.le_of_ble_eq_true rfl) (goI fun r4 G4 h4 => ?_)
  obtain ⟨er4, hgg⟩ := h4
  rw [hgg, er4]
  exact gw_iret hc dX0_worst_7 ⟨_, rfl, ⟨rfl, rfl⟩⟩

set_option maxHeartbeats 4000000 in
theorem m_X0_loadsOn {l : Launch} {D : va_G} {X : Nat → Nat} {b0 : Nat} {tg : Nat → Nat} {e nid pl sv pd : Nat} {h : Int → Nat} {A : Int → Nat → Nat} {S P L V Pd : Int → Int} {kn ln N : Int} {G : gM} (hC : edC D X tg e nid pl sv pd h A S P kn L V Pd ln G) (hW : rowW S N)  : gMet l D X b0 yX0_loadsOn cX0_loadsOn 3 (some FieldType.int) (rmE 3 0 0) [.ref e] G (eI (alF S 4) G) := by
  refine gm_start (own := "EnergyDiscs") (lv := [some (.ref e), none, none]) (by decide +kernel) rfl (Nat.le_of_ble_eq_true rfl) rfl (fun p_ e_ s_ m_ args_ below_ meth_ c_ hc hnm => ?_)
  obtain ⟨hlt, W, hH⟩ := ed_H hC
  obtain ⟨mcm, arm, hmcm, hMc, hMa, -⟩ := alR_P hH.2.2.2.2.1
  obtain ⟨mcl, arl, hmcl, hLc, hLa, -⟩ := alR_P hH.2.2.2.2.2.1
  have hb := hH.1
  refine gw_iconst (q := 1) hc dX0_loadsOn_0 rfl ?_
  refine gw_istore_n (q := 2) hc dX0_loadsOn_1 rfl rfl xs_1 (by decide) (n2p xg_0 rfl) ?_
  refine gw_iconst (q := 3) hc dX0_loadsOn_2 rfl ?_
  refine gw_istore_n (q := 4) hc dX0_loadsOn_3 rfl rfl xs_2 (by decide) (n2p xg_1 rfl) ?_
  refine gw_loop (σ := Nat) (fun x => (x : Int) ≤ S 8) (fun x => 12 - x) (fun x => G) (fun x => [some (.ref e), some (.int (iI (bts (fun j => decide (S (102 + 3 * j + 2) = 1)) x))), some (.int (iI (x : Int)))]) ?_ 0 (by omega)
  rintro k hI4 ih4
  try dsimp only at hI4 ⊢
  have hb12 := bts_bd12 (f := fun j => decide (S (102 + 3 * j + 2) = 1)) (n := k) (by omega)
  refine gw_iload_n (q := 5) hc dX0_loadsOn_4 rfl rfl xg_2 ?_
  refine gw_aload_n (q := 6) hc dX0_loadsOn_5 rfl rfl xg_0 ?_
  refine gw_get (q := 9) hc dX0_loadsOn_6 rfl cE_ED 0 (by decide) q198 (fun _ h => h) hC.1.1 rfl ?_
  refine gw_getN (q := 12) hc dX0_loadsOn_9 rfl cE_HO 2 (by decide) q147 (fun _ h => h) hH.2.2.1 rfl ?_
  refine gw_callF (q := 17) (bc' := 0) (bs' := 0) (As := []) hc dX0_loadsOn_12 rfl cE_AL q232 mf_J2_size_7 rfl rfl (m_J2_size hLc) (rc_o hc cE_AL hLc) ⟨Nat.le_of_ble_eq_true rfl, Nat.le_of_ble_eq_true rfl⟩ (Nat.le_of_ble_eq_true rfl) (Nat.le_of_ble_eq_true rfl) (Nat.le_of_ble_eq_true rfl) (goI fun r12 G12 h12 => ?_)
  obtain ⟨er12, hgg⟩ := h12
  rw [hgg, er12]
  refine gw_icmp_ge  (q := 20) (t := 58) hc dX0_loadsOn_17 rfl (by decide) (by omega) (by omega) (fun c17 => ?_) (fun c17 => ?_)
  · skip
    refine gw_iload_n (q := 59) hc dX0_loadsOn_58 rfl rfl xg_1 ?_
    exact gw_iret hc dX0_loadsOn_59 ⟨_, rfl, ⟨by obtain rfl : k = (S 8).toNat := (by omega); rfl, rfl⟩⟩
  · have hk8 : (k : Int) < S 8 := by omega
    have hlo := hH.2.2.2.2.2.2.2 k hk8
    have hlw := hW.1.2.1.2 (k : Int) (by omega) hk8
    obtain ⟨cap, f, hA1, hf1b, hb1, hfi⟩ := alP_get hLa (i := (k : Int)) (by omega) (by omega)
    refine gw_iload_n (q := 21) hc dX0_loadsOn_20 rfl rfl xg_1 ?_
    refine gw_aload_n (q := 22) hc dX0_loadsOn_21 rfl rfl xg_0 ?_
    refine gw_get (q := 25) hc dX0_loadsOn_22 rfl cE_ED 0 (by decide) q198 (fun _ h => h) hC.1.1 rfl ?_
    refine gw_getN (q := 28) hc dX0_loadsOn_25 rfl cE_HO 2 (by decide) q147 (fun _ h => h) hH.2.2.1 rfl ?_
    refine gw_iload_n (q := 29) hc dX0_loadsOn_28 rfl rfl xg_2 ?_
    refine gw_callF (q := 34) (bc' := 0) (bs' := 0) (As := [_]) hc dX0_loadsOn_29 rfl cE_AL q586 mf_J2_get_7 rfl rfl (m_J2_get hLc hA1 (by omega) (by omega) hfi) (rc_o hc cE_AL hLc) ⟨Nat.le_of_ble_eq_true rfl, Nat.le_of_ble_eq_true rfl⟩ (Nat.le_of_ble_eq_true rfl) (Nat.le_of_ble_eq_true rfl) (Nat.le_of_ble_eq_true rfl) (goA fun r29 G29 h29 => ?_)
    obtain ⟨er29, hgg⟩ := h29
    have er29b : r29 = A (-1) (60 + k) := by rw [er29]; show A (-1) (60 + (k : Int).toNat) = _; rw [Int.toNat_natCast]
    rw [hgg, er29b]
    refine gw_cast (q := 37) hc dX0_loadsOn_34 rfl q570 (rc_o hc cE_LO hlo) ?_
    refine gw_getN (q := 40) hc dX0_loadsOn_37 rfl cE_LO 2 (by decide) q513 (fun _ h => h) hlo rfl ?_
    refine gw_if_eq  (q := 43) (t := 49) hc dX0_loadsOn_40 rfl (by decide) (by omega) (fun c40 => ?_) (fun c40 => ?_)
    · have hd : (fun j => decide (S (102 + 3 * j + 2) = 1)) (k : Int) = false := by simp; omega
      refine gw_iconst (q := 50) hc dX0_loadsOn_49 rfl ?_
      refine gw_ior (q := 51) hc dX0_loadsOn_50 rfl ?_
      rw [bts_s0 hd]
      refine gw_istore_n (q := 52) hc dX0_loadsOn_51 rfl rfl xs_1 (by decide) (n2p xg_0 rfl) ?_
      refine gw_iinc (q := 55) hc dX0_loadsOn_52 rfl xg_2 xs_2 (by decide) (n2p xg_1 rfl) ?_
      refine gw_goto (q := 4) hc dX0_loadsOn_55 (by decide) ?_
      exact ih4 (k + 1) (by omega) (by omega)
    · have hd : (fun j => decide (S (102 + 3 * j + 2) = 1)) (k : Int) = true := by simp; omega
      refine gw_iconst (q := 44) hc dX0_loadsOn_43 rfl ?_
      refine gw_iload_n (q := 45) hc dX0_loadsOn_44 rfl rfl xg_2 ?_
      refine gw_ishl (q := 46) hc dX0_loadsOn_45 rfl ?_
      refine gw_goto (q := 50) hc dX0_loadsOn_46 (by decide) ?_
      refine gw_ior (q := 51) hc dX0_loadsOn_50 rfl ?_
      rw [bts_s1 (by omega) hd]
      refine gw_istore_n (q := 52) hc dX0_loadsOn_51 rfl rfl xs_1 (by decide) (n2p xg_0 rfl) ?_
      refine gw_iinc (q := 55) hc dX0_loadsOn_52 rfl xg_2 xs_2 (by decide) (n2p xg_1 rfl) ?_
      refine gw_goto (q := 4) hc dX0_loadsOn_55 (by decide) ?_
      exact ih4 (k + 1) (by omega) (by omega)

theorem mw_J4_length : mV "java/lang/StringBuilder" yJ4_length cJ4_length 1 (some FieldType.int) 0 := ⟨⟨rfl, by decide +kernel, by decide +kernel, by decide +kernel⟩, q857, q858, q79, q859⟩
theorem mw_J4_charAt : mV "java/lang/StringBuilder" yJ4_charAt cJ4_charAt 2 (some FieldType.char) 1 := ⟨⟨rfl, by decide +kernel, by decide +kernel, by decide +kernel⟩, q868, q869, q79, q870⟩
set_option maxHeartbeats 4000000 in
theorem m_X0_sign {l : Launch} {D : va_G} {X : Nat → Nat} {b0 : Nat} {tg : Nat → Nat} {e nid pl sv pd : Nat} {h : Int → Nat} {A : Int → Nat → Nat} {S P L V Pd : Int → Int} {kn ln : Int} {G : gM} (hC : edC D X tg e nid pl sv pd h A S P kn L V Pd ln G) {q : Int} (hq : rI q) (hpw : padW Pd ln) : gMet l D X b0 yX0_sign cX0_sign 2 (some FieldType.int) (rmE 4 0 0) [.ref e, .int (iI q)] G (eI (if 0 ≤ q ∧ q < ln then Pd q else -1) G) := by
  refine gm_start (own := "EnergyDiscs") (lv := [some (.ref e), some (.int (iI q))]) (by decide +kernel) rfl (Nat.le_of_ble_eq_true rfl) rfl (fun p_ e_ s_ m_ args_ below_ meth_ c_ hc hnm => ?_)
  obtain ⟨hlt, W, hH⟩ := ed_H hC
  obtain ⟨mcm, arm, hmcm, hMc, hMa, -⟩ := alR_P hH.2.2.2.2.1
  obtain ⟨mcl, arl, hmcl, hLc, hLa, -⟩ := alR_P hH.2.2.2.2.2.1
  have hb := hH.1
  obtain ⟨vl, mb, cap, f, hG, hV, htp, hcap, hmb, hB, hf⟩ := hC.2.2.2.2.2.2
  have hpb := hpw.1
  refine gw_iload_n (q := 1) hc dX0_sign_0 rfl rfl xg_1 ?_
  refine gw_iconst (q := 2) hc dX0_sign_1 rfl ?_
  refine gw_aload_n (q := 3) hc dX0_sign_2 rfl rfl xg_0 ?_
  refine gw_get (q := 6) hc dX0_sign_3 rfl cE_ED 3 (by decide) q202 (fun _ h => h) hC.1.1 rfl ?_
  refine gw_callV (q := 9) (bc' := 0) (bs' := 0) (As := []) hc dX0_sign_6 rfl q856 mw_J4_length (rc_o hc cE_SB hG) rfl rfl (m_J4_length hG) ⟨Nat.le_of_ble_eq_true rfl, Nat.le_of_ble_eq_true rfl⟩ (Nat.le_of_ble_eq_true rfl) (Nat.le_of_ble_eq_true rfl) (Nat.le_of_ble_eq_true rfl) (goI fun r6 G6 h6 => ?_)
  obtain ⟨er6, hgg⟩ := h6
  rw [hgg, er6]
  refine gw_iconst (q := 10) hc dX0_sign_9 rfl ?_
  refine gw_isub (q := 11) hc dX0_sign_10 rfl ?_
  refine gw_callS (q := 14) (bc' := 0) (bs' := 0) (As := [_, _, _]) hc dX0_sign_11 rfl q216 mw_X0_isIn rfl rfl (m_X0_isIn hq (by omega) (by omega)) ⟨Nat.le_of_ble_eq_true rfl, Nat.le_of_ble_eq_true rfl⟩ (Nat.le_of_ble_eq_true rfl) (Nat.le_of_ble_eq_true rfl) (Nat.le_of_ble_eq_true rfl) (goI fun r11 G11 h11 => ?_)
  obtain ⟨b11, hgg⟩ := h11
  rw [hgg]
  refine gw_if_eq  (q := 17) (t := 28) hc dX0_sign_14 rfl (by decide) (by omega) (fun c14 => ?_) (fun c14 => ?_)
  · skip
    refine gw_iconst (q := 29) hc dX0_sign_28 rfl ?_
    exact gw_iret hc dX0_sign_29 ⟨_, rfl, ⟨by rw [if_neg (by omega)], rfl⟩⟩
  · skip
    refine gw_aload_n (q := 18) hc dX0_sign_17 rfl rfl xg_0 ?_
    refine gw_get (q := 21) hc dX0_sign_18 rfl cE_ED 3 (by decide) q202 (fun _ h => h) hC.1.1 rfl ?_
    refine gw_iload_n (q := 22) hc dX0_sign_21 rfl rfl xg_1 ?_
    refine gw_callV (q := 25) (bc' := 0) (bs' := 0) (As := [_]) hc dX0_sign_22 rfl q867 mw_J4_charAt (rc_o hc cE_SB hG) rfl rfl (m_J4_charAt hC.2.2.2.2.2.2 (by omega) (by have := hpw.2 q (by omega) (by omega); omega)) ⟨Nat.le_of_ble_eq_true rfl, Nat.le_of_ble_eq_true rfl⟩ (Nat.le_of_ble_eq_true rfl) (Nat.le_of_ble_eq_true rfl) (Nat.le_of_ble_eq_true rfl) (goI fun r22 G22 h22 => ?_)
    obtain ⟨er22, hgg⟩ := h22
    rw [hgg, er22]
    refine gw_goto (q := 29) hc dX0_sign_25 (by decide) ?_
    exact gw_iret hc dX0_sign_29 ⟨_, rfl, ⟨by rw [if_pos (by omega)], rfl⟩⟩

theorem mw_J4_setLength : mV "java/lang/StringBuilder" yJ4_setLength cJ4_setLength 2 none 1 := ⟨⟨rfl, by decide +kernel, by decide +kernel, by decide +kernel⟩, q685, q686, q79, q687⟩
set_option maxHeartbeats 4000000 in
theorem m_X0_wipe {l : Launch} {D : va_G} {X : Nat → Nat} {b0 : Nat} {tg : Nat → Nat} {e nid pl sv pd : Nat} {h : Int → Nat} {A : Int → Nat → Nat} {S P L V Pd : Int → Int} {kn ln : Int} {G : gM} (hC : edC D X tg e nid pl sv pd h A S P kn L V Pd ln G) (hn : nid < 890) : gMet l D X b0 yX0_wipe cX0_wipe 2 (some FieldType.int) (rmE 3 0 0) [.ref e] G (pI fun r G' => r = ln ∧ ∃ tg' : Nat → Nat, frE tg tg' G G' ∧ edR D X tg' e nid S P kn L V Pd 0 G') := by
  refine gm_start (own := "EnergyDiscs") (lv := [some (.ref e), none]) (by decide +kernel) rfl (Nat.le_of_ble_eq_true rfl) rfl (fun p_ e_ s_ m_ args_ below_ meth_ c_ hc hnm => ?_)
  obtain ⟨hlt, W, hH⟩ := ed_H hC
  obtain ⟨mcm, arm, hmcm, hMc, hMa, -⟩ := alR_P hH.2.2.2.2.1
  obtain ⟨mcl, arl, hmcl, hLc, hLa, -⟩ := alR_P hH.2.2.2.2.2.1
  have hb := hH.1
  obtain ⟨vl, mb, cap, f, hG, hV, htp, hcap, hmb, hB, hf⟩ := hC.2.2.2.2.2.2
  refine gw_aload_n (q := 1) hc dX0_wipe_0 rfl rfl xg_0 ?_
  refine gw_get (q := 4) hc dX0_wipe_1 rfl cE_ED 3 (by decide) q202 (fun _ h => h) hC.1.1 rfl ?_
  refine gw_callV (q := 7) (bc' := 0) (bs' := 0) (As := []) hc dX0_wipe_4 rfl q856 mw_J4_length (rc_o hc cE_SB hG) rfl rfl (m_J4_length hG) ⟨Nat.le_of_ble_eq_true rfl, Nat.le_of_ble_eq_true rfl⟩ (Nat.le_of_ble_eq_true rfl) (Nat.le_of_ble_eq_true rfl) (Nat.le_of_ble_eq_true rfl) (goI fun r4 G4 h4 => ?_)
  obtain ⟨er4, hgg⟩ := h4
  rw [hgg, er4]
  refine gw_istore_n (q := 8) hc dX0_wipe_7 rfl rfl xs_1 (by decide) (n2p xg_0 rfl) ?_
  refine gw_aload_n (q := 9) hc dX0_wipe_8 rfl rfl xg_0 ?_
  refine gw_get (q := 12) hc dX0_wipe_9 rfl cE_ED 3 (by decide) q202 (fun _ h => h) hC.1.1 rfl ?_
  refine gw_iconst (q := 13) hc dX0_wipe_12 rfl ?_
  refine gw_callV (q := 16) (bc' := 0) (bs' := 0) (As := [_]) hc dX0_wipe_13 rfl q684 mw_J4_setLength (rc_o hc cE_SB hG) rfl rfl (m_J4_setLength hC.2.2.2.2.2.2) ⟨Nat.le_of_ble_eq_true rfl, Nat.le_of_ble_eq_true rfl⟩ (Nat.le_of_ble_eq_true rfl) (Nat.le_of_ble_eq_true rfl) (Nat.le_of_ble_eq_true rfl) (goV fun G13 h13 => ?_)
  obtain ⟨ht3, hs3⟩ := h13
  refine gw_iload_n (q := 17) hc dX0_wipe_16 rfl rfl xg_1 ?_
  exact gw_iret hc dX0_wipe_17 ⟨_, rfl, ⟨rfl, tg, frE_of ht3 (by omega), pl, sv, pd, h, A, ed_pad hC ht3 (hs3 Pd) (by omega)⟩⟩

