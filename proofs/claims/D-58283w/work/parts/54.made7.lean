/-! ===== THE CLASS: a new meter ===== -/
set_option maxRecDepth 100000
/-- the row with a meter more, no seal yet -/
def adF (S : Int → Int) (t : Int) : Int → Int := fun i => if i = 10 then S 10 else if i = 11 + 13 * S 7 + 6 then 0 else coF S t i
section ADF
variable {S : Int → Int} {t : Int} {k : Nat}
theorem adF_7 (h7 : 0 ≤ S 7) : adF S t 7 = S 7 + 1 := by unfold adF; rw [if_neg (by omega), if_neg (by omega), coF_7 h7]
theorem adF_o (hk : S 7 = k) : ∀ i, 0 ≤ i → i < 138 → i ≠ 7 → i ≠ 9 → (i < 11 + 13 * (k : Int) ∨ 11 + 13 * (k : Int) + 13 ≤ i) → adF S t i = S i := fun i _ _ h7 _ h => by
  unfold adF
  by_cases e : i = 10
  · rw [if_pos e, e]
  · rw [if_neg e, if_neg (by omega), coF_o (by omega) (by omega) ⟨h7, e⟩]
theorem adF_n (hk : S 7 = k) : ∀ j, 1 ≤ j → j ≤ 12 → adF S t (11 + 13 * (k : Int) + j) = if j = 2 then 100 else 0 := fun j h1 h2 => by
  unfold adF
  rw [if_neg (by omega)]
  by_cases e : j = 6
  · rw [if_pos (by omega), if_neg (by omega)]
  · rw [if_neg (by omega), show 11 + 13 * (k : Int) + j = 0 + 11 + 13 * S 7 + j by omega, coF_n (by omega) (by omega) h2, if_neg (by omega)]
    by_cases e2 : j = 2
    · rw [if_pos e2, if_pos e2]
    · rw [if_neg e2, if_neg e2, if_neg e]
theorem adF_p (hk : S 7 = k) : adF S t (11 + 13 * (k : Int)) = if k = 0 then -1 else t := by
  unfold adF
  rw [if_neg (by omega), if_neg (by omega), show 11 + 13 * (k : Int) = 0 + 11 + 13 * S 7 + 0 by omega, coF_n (by omega) (by omega) (by omega), if_pos rfl]
  by_cases e : k = 0
  · rw [if_pos (by omega), if_pos e]
  · rw [if_neg (by omega), if_neg e]
/-- the seal: the meter's cell is the row's -/
theorem coF_ad (hk : S 7 = k) : ∀ i, i ≠ 10 → i ≠ 11 + 13 * (k : Int) + 6 → coF S t i = adF S t i := fun i h1 h2 => by
  unfold adF
  rw [if_neg h1, if_neg (by omega)]
theorem coF_6 (hk : S 7 = k) : coF S t (11 + 13 * (k : Int) + 6) = S 10 + 1 := by
  rw [show 11 + 13 * (k : Int) + 6 = 0 + 11 + 13 * S 7 + 6 by omega, coF_n (by omega) (by omega) (by omega)]
  rfl
end ADF

theorem nm_cell {A : Nat → Nat} {S W : Int → Int} {t : Int} {k : Nat} (hk : S 7 = k) : mtC A (coF S t) W k = mtO k (thV A (adF S t) k) (A (20 + k)) (A (40 + k)) (W k) (adF S t (11 + 13 * (k : Int) + 1)) (adF S t (11 + 13 * (k : Int) + 2)) (adF S t (11 + 13 * (k : Int) + 9)) (adF S t (11 + 13 * (k : Int) + 3)) (adF S t (11 + 13 * (k : Int) + 4)) (adF S t (11 + 13 * (k : Int) + 11)) (adF S t (11 + 13 * (k : Int) + 12)) (adF S t (11 + 13 * (k : Int) + 8)) (adF S t (11 + 13 * (k : Int) + 10)) (S 10 + 1) (adF S t (11 + 13 * (k : Int) + 7)) (adF S t (11 + 13 * (k : Int) + 5)) := by
  have e : ∀ j : Int, 0 ≤ j → j ≤ 12 → j ≠ 6 → coF S t (11 + 13 * (k : Int) + j) = adF S t (11 + 13 * (k : Int) + j) := fun j a b c => coF_ad hk _ (by omega) (by omega)
  have e0 := e 0 (by omega) (by omega) (by omega)
  rw [Int.add_zero] at e0
  unfold mtC thV
  rw [e0, e 1 (by omega) (by omega) (by omega), e 2 (by omega) (by omega) (by omega), e 3 (by omega) (by omega) (by omega), e 4 (by omega) (by omega) (by omega), e 5 (by omega) (by omega) (by omega), e 7 (by omega) (by omega) (by omega), e 8 (by omega) (by omega) (by omega), e 9 (by omega) (by omega) (by omega), e 10 (by omega) (by omega) (by omega), e 11 (by omega) (by omega) (by omega), e 12 (by omega) (by omega) (by omega), coF_6 hk]
theorem nm_tg {D : va_G} {X tg tg1 : Nat → Nat} {hid : Nat} {A : Nat → Nat} {S W : Int → Int} {G G1 : gM} {k : Nat} {e e' : va_E} (hH : hsR D X tg1 hid A S W G1) (ht : tgR tg tg1 hid G G1) (hk : (k : Int) < S 7) : tgR tg tg1 hid G (gup (gup G1 (A 0) e) (A (10 + k)) e') := by
  have h0 := hH.2.1 _ us_0
  have hm := hH.2.1 _ (us_m hk)
  have hb := hH.1
  obtain ⟨c0, d0⟩ := us_some hH us_0
  obtain ⟨cm, dm⟩ := us_some hH (us_m hk)
  obtain ⟨a1, a2, a3, a4, a5⟩ := ht
  refine ⟨a1, fun q f he h1 h2 => ?_, fun q hq hq' => ?_, a4, fun q hq => gup_nn (gup_nn (a5 q hq))⟩
  · have := a1 q (by rw [he]; exact fun z => by cases z) h2
    rw [gup_n (fun z => by rw [z, hm] at this; rw [z] at h1; omega), gup_n (fun z => by rw [z, h0] at this; rw [z] at h1; omega)]
    exact a2 q f he h1 h2
  · refine a3 q hq (fun z => hq' ?_)
    rw [gup_n (fun y => by rw [y, dm] at z; cases z), gup_n (fun y => by rw [y, d0] at z; cases z)]
    exact z
theorem mw_X1_add : mV "EnergyDiscs$House" yX1_add cX1_add 3 (some (FieldType.object "EnergyDiscs$Meter")) 1 := ⟨⟨rfl, by decide +kernel, by decide +kernel, by decide +kernel⟩, q323, q324, q74, q325⟩
set_option maxHeartbeats 4000000 in
theorem m_X1_newMeter {l : Launch} {D : va_G} {X : Nat → Nat} {b0 : Nat} {tg : Nat → Nat} {hid : Nat} {A : Nat → Nat} {S W : Int → Int} {G : gM} (hH : hsR D X tg hid A S W G) {N t : Int} {k : Nat} (hW : rowW S N) (hh : hid < 999) (hk : S 7 = k) (hw : wnM S t = 0) (ht : rI t) : gMet l D X b0 yX1_newMeter cX1_newMeter 3 (some FieldType.int) (rmE 9 5 151) [.ref (A 0), .int (iI t)] G (pI fun r G' => r = S 7 ∧ ∃ (tg' A' : Nat → Nat) (W' : Int → Int), tgR tg tg' hid G G' ∧ hsR D X tg' hid A' (coF S t) W' G' ∧ ∀ r, usd S r → A' r = A r) := by
  refine gm_start (own := "EnergyDiscs$House") (lv := [some (.ref (A 0)), some (.int (iI t)), none]) (by decide +kernel) rfl (Nat.le_of_ble_eq_true rfl) rfl (fun p_ e_ s_ m_ args_ below_ meth_ c_ hc hnm => ?_)
  have h7 := rw_7 hW
  have hwm : S 7 < 7 ∧ (0 < S 7 → 0 ≤ t ∧ t < S 7) := by unfold wnM at hw; (repeat' split at hw) <;> omega
  obtain ⟨mcm, arm, hmcm, hMc, hMa, -⟩ := alR_P hH.2.2.2.2.1
  refine gw_aload_n (q := 1) hc dX1_newMeter_0 rfl rfl xg_0 ?_
  refine gw_aload_n (q := 2) hc dX1_newMeter_1 rfl rfl xg_0 ?_
  refine gw_get (q := 5) hc dX1_newMeter_2 rfl cE_HO 1 (by decide) q144 (fun _ h => h) hH.2.2.1 rfl ?_
  refine gw_callF (q := 10) (bc' := 5) (bs' := 151) (As := []) hc dX1_newMeter_5 rfl cE_AL q557 mf_J2_isEmpty_7 rfl rfl (m_J2_isEmpty hMc (by omega)) (rc_o hc cE_AL hMc) ⟨Nat.le_of_ble_eq_true rfl, Nat.le_of_ble_eq_true rfl⟩ (Nat.le_of_ble_eq_true rfl) (Nat.le_of_ble_eq_true rfl) (Nat.le_of_ble_eq_true rfl) (goI fun r5 G5 h5 => ?_)
  obtain ⟨b5, hgg⟩ := h5
  rw [hgg]
  refine gw_if_eq  (q := 13) (t := 18) hc dX1_newMeter_10 rfl (by decide) (by omega) (fun c10 => ?_) (fun c10 => ?_)
  · skip
    obtain ⟨tt, rfl⟩ : ∃ tt : Nat, t = tt := ⟨t.toNat, by omega⟩
    refine gw_iload_n (q := 19) hc dX1_newMeter_18 rfl rfl xg_1 ?_
    refine gw_callV (q := 22) (bc' := 0) (bs' := 0) (As := [_]) hc dX1_newMeter_19 rfl q322 mw_X1_add (rc_o hc cE_HO hH.2.2.1) rfl rfl (m_X1_add (S' := adF S (tt : Int)) hH hW.1.1 hW.1.2.1 hk (by omega) hh (adF_7 (by omega)) (adF_o hk) (adF_n hk) (by omega) (by rw [adF_p hk, if_neg (by omega)])) ⟨Nat.le_of_ble_eq_true rfl, Nat.le_of_ble_eq_true rfl⟩ (Nat.le_of_ble_eq_true rfl) (Nat.le_of_ble_eq_true rfl) (Nat.le_of_ble_eq_true rfl) (goA fun r19 G19 h19 => ?_)
    obtain ⟨tg1, A1, rfl, ht1, hH1, hA1⟩ := h19
    have eA0 : A 0 = A1 0 := (hA1 0 us_0).symm
    rw [eA0]
    have e7 := adF_7 (S := S) (t := (tt : Int)) (by omega)
    have hmk := (hH1.2.2.2.2.2.2.1 k (by omega)).1
    have hne : A1 0 ≠ A1 (10 + k) := hs_ne hH1 us_0 (us_m (by omega)) (by omega)
    have hH2 := hs_upH (S' := fu (adF S (tt : Int)) 10 (S 10 + 1)) hH1 (fun i a b c d e => fu_n e)
    have hH3 := hs_upM (S' := coF S (tt : Int)) (W' := fu W (k : Int) 0) (m := k) hH2 (by rw [fu_n (by omega)]; omega) (fun i a b c d => by by_cases e : i = 10; (rw [e, fu_s]; exact coF_10 (by omega)); (rw [fu_n e]; exact coF_ad hk i e (by omega))) (fun _ _ _ => rfl)
    refine gw_astore_n (q := 23) hc dX1_newMeter_22 rfl rfl xs_2 (by decide) (n2p xg_1 rfl) ?_
    refine gw_aload_n (q := 24) hc dX1_newMeter_23 rfl rfl xg_0 ?_
    refine gw_dup (q := 25) hc dX1_newMeter_24 rfl rfl ?_
    refine gw_get (q := 28) hc dX1_newMeter_25 rfl cE_HO 4 (by decide) q150 (fun _ h => h) hH1.2.2.1 rfl ?_
    refine gw_iconst (q := 29) hc dX1_newMeter_28 rfl ?_
    refine gw_iadd (q := 30) hc dX1_newMeter_29 rfl ?_
    refine gw_put (q := 33) hc dX1_newMeter_30 rfl cE_HO 4 (by decide) q150 (fun _ h => h) rfl hH1.2.2.1 ⟨rfl, rfl⟩ rfl (Nat.le_of_ble_eq_true rfl) ?_
    refine gw_G (show _ = gup _ (A1 0) (hoO A1 (fu (adF S (tt : Int)) 10 (S 10 + 1))) from by unfold hoO; rw [fu_s, fu_n (by omega)]; rfl) ?_
    refine gw_aload_n (q := 34) hc dX1_newMeter_33 rfl rfl xg_2 ?_
    refine gw_aload_n (q := 35) hc dX1_newMeter_34 rfl rfl xg_0 ?_
    refine gw_get (q := 38) hc dX1_newMeter_35 rfl cE_HO 4 (by decide) q150 (fun _ h => h) gup_s rfl ?_
    refine gw_putN (q := 41) hc dX1_newMeter_38 rfl cE_ME 14 (by decide) q446 (fun _ h => h) rfl ((gup_n (Ne.symm hne)).trans hmk) ⟨rfl, rfl⟩ rfl (Nat.le_of_ble_eq_true rfl) ?_
    refine gw_G (show _ = gup _ (A1 (10 + k)) (mtC A1 (coF S (tt : Int)) (fu W (k : Int) 0) k) from by rw [nm_cell hk]; rfl) ?_
    refine gw_aload_n (q := 42) hc dX1_newMeter_41 rfl rfl xg_2 ?_
    refine gw_getN (q := 45) hc dX1_newMeter_42 rfl cE_ME 0 (by decide) q410 (fun _ h => h) gup_s rfl ?_
    exact gw_iret hc dX1_newMeter_45 ⟨_, rfl, ⟨by omega, tg1, A1, _, nm_tg hH1 ht1 (by omega), hH3, hA1⟩⟩
  · skip
    refine gw_bipush (q := 15) hc dX1_newMeter_13 rfl (by decide) ?_
    refine gw_goto (q := 19) hc dX1_newMeter_15 (by decide) ?_
    refine gw_callV (q := 22) (bc' := 0) (bs' := 0) (As := [_]) hc dX1_newMeter_19 rfl q322 mw_X1_add (rc_o hc cE_HO hH.2.2.1) rfl rfl (m_X1_add_N (S' := adF S t) hH hW.1.1 hW.1.2.1 hk (by omega) hh (adF_7 (by omega)) (adF_o hk) (adF_n hk) ⟨by omega, by omega⟩ (by omega) (by have h := adF_p (S := S) (t := t) hk; rw [if_pos (by omega), show 11 + 13 * (k : Int) = 11 by omega] at h; exact h)) ⟨Nat.le_of_ble_eq_true rfl, Nat.le_of_ble_eq_true rfl⟩ (Nat.le_of_ble_eq_true rfl) (Nat.le_of_ble_eq_true rfl) (Nat.le_of_ble_eq_true rfl) (goA fun r19 G19 h19 => ?_)
    obtain ⟨tg1, A1, rfl, ht1, hH1, hA1⟩ := h19
    have eA0 : A 0 = A1 0 := (hA1 0 us_0).symm
    rw [eA0]
    have e7 := adF_7 (S := S) (t := t) (by omega)
    have hmk := (hH1.2.2.2.2.2.2.1 k (by omega)).1
    have hne : A1 0 ≠ A1 (10 + k) := hs_ne hH1 us_0 (us_m (by omega)) (by omega)
    have hH2 := hs_upH (S' := fu (adF S t) 10 (S 10 + 1)) hH1 (fun i a b c d e => fu_n e)
    have hH3 := hs_upM (S' := coF S t) (W' := fu W (k : Int) 0) (m := k) hH2 (by rw [fu_n (by omega)]; omega) (fun i a b c d => by by_cases e : i = 10; (rw [e, fu_s]; exact coF_10 (by omega)); (rw [fu_n e]; exact coF_ad hk i e (by omega))) (fun _ _ _ => rfl)
    refine gw_astore_n (q := 23) hc dX1_newMeter_22 rfl rfl xs_2 (by decide) (n2p xg_1 rfl) ?_
    refine gw_aload_n (q := 24) hc dX1_newMeter_23 rfl rfl xg_0 ?_
    refine gw_dup (q := 25) hc dX1_newMeter_24 rfl rfl ?_
    refine gw_get (q := 28) hc dX1_newMeter_25 rfl cE_HO 4 (by decide) q150 (fun _ h => h) hH1.2.2.1 rfl ?_
    refine gw_iconst (q := 29) hc dX1_newMeter_28 rfl ?_
    refine gw_iadd (q := 30) hc dX1_newMeter_29 rfl ?_
    refine gw_put (q := 33) hc dX1_newMeter_30 rfl cE_HO 4 (by decide) q150 (fun _ h => h) rfl hH1.2.2.1 ⟨rfl, rfl⟩ rfl (Nat.le_of_ble_eq_true rfl) ?_
    refine gw_G (show _ = gup _ (A1 0) (hoO A1 (fu (adF S t) 10 (S 10 + 1))) from by unfold hoO; rw [fu_s, fu_n (by omega)]; rfl) ?_
    refine gw_aload_n (q := 34) hc dX1_newMeter_33 rfl rfl xg_2 ?_
    refine gw_aload_n (q := 35) hc dX1_newMeter_34 rfl rfl xg_0 ?_
    refine gw_get (q := 38) hc dX1_newMeter_35 rfl cE_HO 4 (by decide) q150 (fun _ h => h) gup_s rfl ?_
    refine gw_putN (q := 41) hc dX1_newMeter_38 rfl cE_ME 14 (by decide) q446 (fun _ h => h) rfl ((gup_n (Ne.symm hne)).trans hmk) ⟨rfl, rfl⟩ rfl (Nat.le_of_ble_eq_true rfl) ?_
    refine gw_G (show _ = gup _ (A1 (10 + k)) (mtC A1 (coF S t) (fu W (k : Int) 0) k) from by rw [nm_cell hk]; rfl) ?_
    refine gw_aload_n (q := 42) hc dX1_newMeter_41 rfl rfl xg_2 ?_
    refine gw_getN (q := 45) hc dX1_newMeter_42 rfl cE_ME 0 (by decide) q410 (fun _ h => h) gup_s rfl ?_
    exact gw_iret hc dX1_newMeter_45 ⟨_, rfl, ⟨by omega, tg1, A1, _, nm_tg hH1 ht1 (by omega), hH3, hA1⟩⟩

