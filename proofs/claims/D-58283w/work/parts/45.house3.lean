/-! ===== THE CLASS: a house's minutes, visits, the worst ===== -/
set_option maxRecDepth 100000
theorem agree_pm {S : Int → Int} {k : Nat} : ∀ i, 0 ≤ i → i < 138 → i ≠ 9 → (i ≤ 11 + 13 * (k : Int) ∨ 11 + 13 * (k : Int) + 13 ≤ i) → pmF S 0 k i = S i := fun i _ _ _ h => pmF_o (by omega) (by omega) (by omega) (by omega) (by omega) (by omega)
/-- the meter's cell behind a visit -/
theorem visit_cell {A : Nat → Nat} {S W : Int → Int} {k : Nat} : mtC A (viF S k) W k = mtO k (thV A S k) (A (20 + k)) (A (40 + k)) (W k) (S (11 + 13 * (k : Int) + 1)) 100 0 (S (11 + 13 * (k : Int) + 3)) (S (11 + 13 * (k : Int) + 4)) (S (11 + 13 * (k : Int) + 3)) (S (11 + 13 * (k : Int) + 4)) (S (11 + 13 * (k : Int) + 8) + biF S k) (S (11 + 13 * (k : Int) + 10) + 1) (if S (11 + 13 * (k : Int) + 7) = 1 then S 10 + 1 else S (11 + 13 * (k : Int) + 6)) (if S (11 + 13 * (k : Int) + 7) = 1 then 0 else S (11 + 13 * (k : Int) + 7)) (S (11 + 13 * (k : Int) + 5)) := by
  have h0 : (0 : Int) ≤ (k : Int) := by omega
  have e : ∀ j : Int, (0 : Int) + 11 + 13 * (k : Int) + j = 11 + 13 * (k : Int) + j := fun j => by omega
  have e2 := viF_j2 (S := S) h0
  have e6 := viF_j6 (S := S) h0
  have e7 := viF_j7 (S := S) h0
  have e8 := viF_j8 (S := S) h0
  have e9 := viF_j9 (S := S) h0
  have e10 := viF_j10 (S := S) h0
  have e11 := viF_j11 (S := S) h0
  have e12 := viF_j12 (S := S) h0
  simp only [e] at e2 e6 e7 e8 e9 e10 e11 e12
  have o : ∀ j : Int, (j = 0 ∨ j = 1 ∨ j = 3 ∨ j = 4 ∨ j = 5) → viF S k (11 + 13 * (k : Int) + j) = S (11 + 13 * (k : Int) + j) := fun j hj => viF_o h0 (by omega)
  have o0 := o 0 (by omega)
  rw [Int.add_zero] at o0
  unfold mtC thV
  rw [o0, o 1 (by omega), o 3 (by omega), o 4 (by omega), o 5 (by omega), e2, e6, e7, e8, e9, e10, e11, e12]
theorem biF_k {S : Int → Int} {k : Nat} : S 4 * (S (11 + 13 * (k : Int) + 3) - S (11 + 13 * (k : Int) + 11)) + S 5 * (S (11 + 13 * (k : Int) + 4) - S (11 + 13 * (k : Int) + 12)) = biF S k := by
  unfold biF
  rw [show (0 : Int) + 11 + 13 * (k : Int) = 11 + 13 * (k : Int) by omega]

theorem mw_X0_isNight : mS yX0_isNight cX0_isNight 2 (some FieldType.boolean) 1 := ⟨⟨by decide +kernel, by decide +kernel, by decide +kernel⟩, q661, q73, q662⟩
theorem mw_X3_pass : mV "EnergyDiscs$Meter" yX3_pass cX3_pass 4 (some FieldType.int) 2 := ⟨⟨rfl, by decide +kernel, by decide +kernel, by decide +kernel⟩, q664, q665, q87, q666⟩
set_option maxHeartbeats 4000000 in
theorem m_X1_passOne {l : Launch} {D : va_G} {X : Nat → Nat} {b0 : Nat} {tg : Nat → Nat} {hid : Nat} {A : Nat → Nat} {S W : Int → Int} {G : gM} (hH : hsR D X tg hid A S W G) {T : Int} (hP : pasW S T) (hT : T ≤ 200000) (hWp : ∀ y : Nat, (y : Int) < S 7 → W y = pw S y) : gMet l D X b0 yX1_passOne cX1_passOne 3 (some FieldType.int) (rmE 4 0 0) [.ref (A 0)] G (pI fun r G' => r = miT S ∧ hsR D X tg hid A (miF S) W G' ∧ frH tg hid G G') := by
  refine gm_start (own := "EnergyDiscs$House") (lv := [some (.ref (A 0)), none, none]) (by decide +kernel) rfl (Nat.le_of_ble_eq_true rfl) rfl (fun p_ e_ s_ m_ args_ below_ meth_ c_ hc hnm => ?_)
  have h7 := hP.1.1
  have hT0 := hP.2.2.2.2.1
  refine gw_iconst (q := 1) hc dX1_passOne_0 rfl ?_
  refine gw_istore_n (q := 2) hc dX1_passOne_1 rfl rfl xs_1 (by decide) (n2p xg_0 rfl) ?_
  refine gw_iconst (q := 3) hc dX1_passOne_2 rfl ?_
  refine gw_istore_n (q := 4) hc dX1_passOne_3 rfl rfl xs_2 (by decide) (n2p xg_1 rfl) ?_
  refine gw_loop (σ := Nat × gM) (fun x => (x.1 : Int) ≤ S 7 ∧ hsR D X tg hid A (mnS S x.1) W x.2 ∧ frH tg hid G x.2) (fun x => (S 7 - x.1).toNat) (fun x => x.2) (fun x => [some (.ref (A 0)), some (.int (iI (mnT S x.1))), some (.int (iI (x.1 : Int)))]) ?_ ((0 : Nat), G) ⟨h7.1, hH, frH_rf⟩
  rintro ⟨k, G1⟩ hI4 ih4
  try dsimp only at hI4 ⊢
  have hk1 := hI4.2.1
  obtain ⟨i1, i2, i3, i4, i5⟩ := mn_inv hP k hI4.1
  have e7 : mnS S k 7 = S 7 := i1.1
  obtain ⟨mcm, arm, hmcm, hMc, hMa, -⟩ := alR_P hk1.2.2.2.2.1
  obtain ⟨g, hSt, hg⟩ := hk1.2.2.2.1
  refine gw_iload_n (q := 5) hc dX1_passOne_4 rfl rfl xg_2 ?_
  refine gw_aload_n (q := 6) hc dX1_passOne_5 rfl rfl xg_0 ?_
  refine gw_get (q := 9) hc dX1_passOne_6 rfl cE_HO 1 (by decide) q144 (fun _ h => h) hk1.2.2.1 rfl ?_
  refine gw_callF (q := 14) (bc' := 0) (bs' := 0) (As := []) hc dX1_passOne_9 rfl cE_AL q328 mf_J2_size_7 rfl rfl (m_J2_size hMc) (rc_o hc cE_AL hMc) ⟨Nat.le_of_ble_eq_true rfl, Nat.le_of_ble_eq_true rfl⟩ (Nat.le_of_ble_eq_true rfl) (Nat.le_of_ble_eq_true rfl) (Nat.le_of_ble_eq_true rfl) (goI fun r9 G9 h9 => ?_)
  obtain ⟨rfl, rfl⟩ := h9
  rw [e7]
  refine gw_icmp_ge  (q := 17) (t := 53) hc dX1_passOne_14 rfl (by decide) (by omega) (by omega) (fun c14 => ?_) (fun c14 => ?_)
  · skip
    obtain rfl : k = (S 7).toNat := by omega
    refine gw_aload_n (q := 54) hc dX1_passOne_53 rfl rfl xg_0 ?_
    refine gw_dup (q := 55) hc dX1_passOne_54 rfl rfl ?_
    refine gw_get (q := 58) hc dX1_passOne_55 rfl cE_HO 3 (by decide) q148 (fun _ h => h) hk1.2.2.1 rfl ?_
    refine gw_iconst (q := 59) hc dX1_passOne_58 rfl ?_
    refine gw_iadd (q := 60) hc dX1_passOne_59 rfl ?_
    refine gw_put (q := 63) hc dX1_passOne_60 rfl cE_HO 3 (by decide) q148 (fun _ h => h) rfl hk1.2.2.1 ⟨rfl, rfl⟩ rfl (Nat.le_of_ble_eq_true rfl) ?_
    refine gw_G (show _ = gup _ (A 0) (hoO A (miF S)) from by unfold hoO; rw [show miF S 6 = mnS S (S 7).toNat 6 + 1 from fu_s, show miF S 10 = mnS S (S 7).toNat 10 from fu_n (by omega)]; rfl) ?_
    refine gw_iload_n (q := 64) hc dX1_passOne_63 rfl rfl xg_1 ?_
    exact gw_iret hc dX1_passOne_64 ⟨_, rfl, ⟨rfl, hs_upH hk1 (fun i a b c _ _ => fu_n c), frH_gup hI4.2.2 (hk1.2.1 _ us_0) (by omega)⟩⟩
  · obtain ⟨cap, f, hA1, hf1, hb1, hfi⟩ := alP_get hMa (i := (k : Int)) (by omega) (by omega)
    have hkm : (k : Int) < mnS S k 7 := by omega
    obtain ⟨hmk, -, -⟩ := hk1.2.2.2.2.2.2.1 k hkm
    have hmt : mtW (mnS S k) 0 k T := i4 k (by omega) (by omega)
    have hst : stW (mnS S k) 0 := st_E (fun j a b => by rw [Int.zero_add]; exact i2 j a (by omega)) hP.2.2.1
    simp only [mtW, Int.zero_add] at hmt
    simp only [stW, Int.zero_add] at hst
    have hg0 := hg 0 (by omega) (by omega)
    have hg1 := hg 1 (by omega) (by omega)
    have hg2 := hg 2 (by omega) (by omega)
    have hg3 := hg 3 (by omega) (by omega)
    have hwk : W k = pw (mnS S k) k := by rw [pw_E i1 hP.1 hP.2.1 (by omega)]; exact hWp k (by omega)
    have hwb := pw_bd hP.2.1 (S := S) k
    rw [← hWp k (by omega)] at hwb
    have h6 : mnS S k 6 = T := (i2 6 (by omega) (by omega)).trans hP.2.2.2.1
    refine gw_iload_n (q := 18) hc dX1_passOne_17 rfl rfl xg_1 ?_
    refine gw_aload_n (q := 19) hc dX1_passOne_18 rfl rfl xg_0 ?_
    refine gw_get (q := 22) hc dX1_passOne_19 rfl cE_HO 1 (by decide) q144 (fun _ h => h) hk1.2.2.1 rfl ?_
    refine gw_iload_n (q := 23) hc dX1_passOne_22 rfl rfl xg_2 ?_
    refine gw_callF (q := 28) (bc' := 0) (bs' := 0) (As := [_]) hc dX1_passOne_23 rfl cE_AL q330 mf_J2_get_7 rfl rfl (m_J2_get hMc hA1 (by omega) (by omega) hfi) (rc_o hc cE_AL hMc) ⟨Nat.le_of_ble_eq_true rfl, Nat.le_of_ble_eq_true rfl⟩ (Nat.le_of_ble_eq_true rfl) (Nat.le_of_ble_eq_true rfl) (Nat.le_of_ble_eq_true rfl) (goA fun r23 G23 h23 => ?_)
    obtain ⟨rfl, rfl⟩ := h23
    refine gw_cast (q := 31) hc dX1_passOne_28 rfl q321 (rc_o hc cE_ME hmk) ?_
    refine gw_aload_n (q := 32) hc dX1_passOne_31 rfl rfl xg_0 ?_
    refine gw_get (q := 35) hc dX1_passOne_32 rfl cE_HO 3 (by decide) q148 (fun _ h => h) hk1.2.2.1 rfl ?_
    refine gw_callSN (q := 38) (bc' := 0) (bs' := 0) (As := [_]) hc dX1_passOne_35 rfl q660 mw_X0_isNight rfl rfl (m_X0_isNight (by omega)) ⟨Nat.le_of_ble_eq_true rfl, Nat.le_of_ble_eq_true rfl⟩ (Nat.le_of_ble_eq_true rfl) (Nat.le_of_ble_eq_true rfl) (Nat.le_of_ble_eq_true rfl) (goI fun r35 G35 h35 => ?_)
    obtain ⟨hz, rfl⟩ := h35
    refine gw_aload_n (q := 39) hc dX1_passOne_38 rfl rfl xg_0 ?_
    refine gw_get (q := 42) hc dX1_passOne_39 rfl cE_HO 0 (by decide) q142 (fun _ h => h) hk1.2.2.1 rfl ?_
    refine gw_callV (q := 45) (bc' := 0) (bs' := 0) (As := [_, _]) hc dX1_passOne_42 rfl q663 mw_X3_pass (rc_o hc cE_ME hmk) rfl rfl (m_X3_pass hmk hSt (by omega) (by omega) (by omega) hwb (by omega) (by omega) hmt.2.2.2.2.1 (by omega) (by omega) (by omega)) ⟨Nat.le_of_ble_eq_true rfl, Nat.le_of_ble_eq_true rfl⟩ (Nat.le_of_ble_eq_true rfl) (Nat.le_of_ble_eq_true rfl) (Nat.le_of_ble_eq_true rfl) (goI fun r42 G42 h42 => ?_)
    obtain ⟨rfl, rfl⟩ := h42
    have hpc := pass_cell (A := A) (k := k) hwk hg hz (by omega)
    refine gw_G (congrArg (gup _ (A (10 + k))) hpc.2) ?_
    rw [hpc.1]
    refine gw_iadd (q := 46) hc dX1_passOne_45 rfl ?_
    rw [show mnT S k + pmG (mnS S k) 0 k / 6000 = mnT S (k + 1) from rfl]
    refine gw_istore_n (q := 47) hc dX1_passOne_46 rfl rfl xs_1 (by decide) (n2p xg_0 rfl) ?_
    refine gw_iinc (q := 50) hc dX1_passOne_47 rfl xg_2 xs_2 (by decide) (n2p xg_1 rfl) ?_
    refine gw_goto (q := 4) hc dX1_passOne_50 (by decide) ?_
    exact ih4 (k + 1, gup _ (A (10 + k)) (mtC A (pmF (mnS S k) 0 k) W k)) (by dsimp only; exact ⟨by omega, hs_upM hk1 (by omega) agree_pm (fun _ _ _ => rfl), frH_gup hI4.2.2 (hk1.2.1 _ (us_m (by omega))) (by omega)⟩) (by dsimp only; omega)

theorem mw_X1_layPowers : mV "EnergyDiscs$House" yX1_layPowers cX1_layPowers 2 none 0 := ⟨⟨rfl, by decide +kernel, by decide +kernel, by decide +kernel⟩, q642, q643, q74, q644⟩
theorem mw_X1_passOne : mV "EnergyDiscs$House" yX1_passOne cX1_passOne 3 (some FieldType.int) 0 := ⟨⟨rfl, by decide +kernel, by decide +kernel, by decide +kernel⟩, q657, q658, q74, q659⟩
set_option maxHeartbeats 4000000 in
theorem m_X1_pass {l : Launch} {D : va_G} {X : Nat → Nat} {b0 : Nat} {tg : Nat → Nat} {hid : Nat} {A : Nat → Nat} {S W : Int → Int} {G : gM} (hH : hsR D X tg hid A S W G) {N t : Int} (hW : rowW S N) (ht : 0 ≤ t ∧ t ≤ 100000) : gMet l D X b0 yX1_pass cX1_pass 4 (some FieldType.int) (rmE 12 0 0) [.ref (A 0), .int (iI t)] G (pI fun r G' => r = paT S t.toNat ∧ ∃ W' : Int → Int, hsR D X tg hid A (paF S t.toNat) W' G' ∧ (∀ y : Nat, (y : Int) < S 7 → W' y = pw S y) ∧ frH tg hid G G') := by
  refine gm_start (own := "EnergyDiscs$House") (lv := [some (.ref (A 0)), some (.int (iI t)), none, none]) (by decide +kernel) rfl (Nat.le_of_ble_eq_true rfl) rfl (fun p_ e_ s_ m_ args_ below_ meth_ c_ hc hnm => ?_)
  have hP : pasW S (S 6) := hW.1
  have h6 := rw_6 hW
  refine gw_aload_n (q := 1) hc dX1_pass_0 rfl rfl xg_0 ?_
  refine gw_callV (q := 4) (bc' := 0) (bs' := 0) (As := []) hc dX1_pass_1 rfl q641 mw_X1_layPowers (rc_o hc cE_HO hH.2.2.1) rfl rfl (m_X1_layPowers hH hW) ⟨Nat.le_of_ble_eq_true rfl, Nat.le_of_ble_eq_true rfl⟩ (Nat.le_of_ble_eq_true rfl) (Nat.le_of_ble_eq_true rfl) (Nat.le_of_ble_eq_true rfl) (goV fun G1 h1 => ?_)
  obtain ⟨W1, hH1, hW1, hf1⟩ := h1
  refine gw_iconst (q := 5) hc dX1_pass_4 rfl ?_
  refine gw_istore_n (q := 6) hc dX1_pass_5 rfl rfl xs_2 (by decide) (n2p xg_1 rfl) ?_
  refine gw_iconst (q := 7) hc dX1_pass_6 rfl ?_
  refine gw_istore_n (q := 8) hc dX1_pass_7 rfl rfl xs_3 (by decide) (n2p xg_2 rfl) ?_
  refine gw_loop (σ := Nat × gM) (fun x => (x.1 : Int) ≤ t ∧ hsR D X tg hid A (paF S x.1) W1 x.2 ∧ frH tg hid G x.2) (fun x => (t - x.1).toNat) (fun x => x.2) (fun x => [some (.ref (A 0)), some (.int (iI t)), some (.int (iI (paT S x.1))), some (.int (iI (x.1 : Int)))]) ?_ ((0 : Nat), G1) ⟨ht.1, hH1, hf1⟩
  rintro ⟨n, G1⟩ hI8 ih8
  try dsimp only at hI8 ⊢
  obtain ⟨hp1, hp2⟩ := pa_inv hP n
  refine gw_iload_n (q := 9) hc dX1_pass_8 rfl rfl xg_3 ?_
  refine gw_iload_n (q := 10) hc dX1_pass_9 rfl rfl xg_1 ?_
  refine gw_icmp_ge  (q := 13) (t := 26) hc dX1_pass_10 rfl (by decide) (by omega) (by omega) (fun c10 => ?_) (fun c10 => ?_)
  · skip
    refine gw_iload_n (q := 27) hc dX1_pass_26 rfl rfl xg_2 ?_
    exact gw_iret hc dX1_pass_27 ⟨_, rfl, ⟨by rw [show n = t.toNat by omega], W1, by rw [← show n = t.toNat by omega]; exact hI8.2.1, hW1, hI8.2.2⟩⟩
  · skip
    refine gw_iload_n (q := 14) hc dX1_pass_13 rfl rfl xg_2 ?_
    refine gw_aload_n (q := 15) hc dX1_pass_14 rfl rfl xg_0 ?_
    refine gw_callV (q := 18) (bc' := 0) (bs' := 0) (As := []) hc dX1_pass_15 rfl q656 mw_X1_passOne (rc_o hc cE_HO hI8.2.1.2.2.1) rfl rfl (m_X1_passOne hI8.2.1 (T := S 6 + n) hp1 (by omega) (fun y hy => by rw [pw_E hp2 hP.1 hP.2.1 (by omega)]; exact hW1 y (by rw [hp2.1] at hy; exact hy))) ⟨Nat.le_of_ble_eq_true rfl, Nat.le_of_ble_eq_true rfl⟩ (Nat.le_of_ble_eq_true rfl) (Nat.le_of_ble_eq_true rfl) (Nat.le_of_ble_eq_true rfl) (goI fun r15 G15 h15 => ?_)
    obtain ⟨rfl, hH2, hf2⟩ := h15
    refine gw_iadd (q := 19) hc dX1_pass_18 rfl ?_
    rw [show paT S n + miT (paF S n) = paT S (n + 1) from rfl]
    refine gw_istore_n (q := 20) hc dX1_pass_19 rfl rfl xs_2 (by decide) (n2p xg_1 rfl) ?_
    refine gw_iinc (q := 23) hc dX1_pass_20 rfl xg_3 xs_3 (by decide) (n2p xg_2 rfl) ?_
    refine gw_goto (q := 8) hc dX1_pass_23 (by decide) ?_
    exact ih8 (n + 1, G15) (by dsimp only; exact ⟨by omega, hH2, frH_tr hI8.2.2 hf2⟩) (by dsimp only; omega)

theorem mw_X3_bill : mV "EnergyDiscs$Meter" yX3_bill cX3_bill 3 (some FieldType.int) 2 := ⟨⟨rfl, by decide +kernel, by decide +kernel, by decide +kernel⟩, q621, q622, q87, q623⟩
set_option maxHeartbeats 4000000 in
theorem m_X1_bill {l : Launch} {D : va_G} {X : Nat → Nat} {b0 : Nat} {tg : Nat → Nat} {hid : Nat} {A : Nat → Nat} {S W : Int → Int} {G : gM} (hH : hsR D X tg hid A S W G) {k : Nat} (hk : (k : Int) < S 7) : gMet l D X b0 yX1_bill cX1_bill 2 (some FieldType.int) (rmE 1 0 0) [.ref (A 0), .ref (A (10 + k))] G (eI (biF S k) G) := by
  refine gm_start (own := "EnergyDiscs$House") (lv := [some (.ref (A 0)), some (.ref (A (10 + k)))]) (by decide +kernel) rfl (Nat.le_of_ble_eq_true rfl) rfl (fun p_ e_ s_ m_ args_ below_ meth_ c_ hc hnm => ?_)
  obtain ⟨hmk, -, -⟩ := hH.2.2.2.2.2.2.1 k hk
  obtain ⟨g, hSt, hg⟩ := hH.2.2.2.1
  refine gw_aload_n (q := 1) hc dX1_bill_0 rfl rfl xg_1 ?_
  refine gw_aload_n (q := 2) hc dX1_bill_1 rfl rfl xg_0 ?_
  refine gw_get (q := 5) hc dX1_bill_2 rfl cE_HO 0 (by decide) q142 (fun _ h => h) hH.2.2.1 rfl ?_
  refine gw_iconst (q := 6) hc dX1_bill_5 rfl ?_
  refine gw_iald (q := 7) hc dX1_bill_6 rfl hSt (by omega) (by omega) ?_
  refine gw_aload_n (q := 8) hc dX1_bill_7 rfl rfl xg_0 ?_
  refine gw_get (q := 11) hc dX1_bill_8 rfl cE_HO 0 (by decide) q142 (fun _ h => h) hH.2.2.1 rfl ?_
  refine gw_iconst (q := 12) hc dX1_bill_11 rfl ?_
  refine gw_iald (q := 13) hc dX1_bill_12 rfl hSt (by omega) (by omega) ?_
  refine gw_callV (q := 16) (bc' := 0) (bs' := 0) (As := [_, _]) hc dX1_bill_13 rfl q620 mw_X3_bill (rc_o hc cE_ME hmk) rfl rfl (m_X3_bill hmk) ⟨Nat.le_of_ble_eq_true rfl, Nat.le_of_ble_eq_true rfl⟩ (Nat.le_of_ble_eq_true rfl) (Nat.le_of_ble_eq_true rfl) (Nat.le_of_ble_eq_true rfl) (goI fun r13 G13 h13 => ?_)
  obtain ⟨rfl, rfl⟩ := h13
  rw [hg 4 (by omega) (by omega), hg 5 (by omega) (by omega), biF_k]
  exact gw_iret hc dX1_bill_16 ⟨_, rfl, ⟨rfl, rfl⟩⟩

theorem visit_n {D : va_G} {X tg : Nat → Nat} {hid : Nat} {A : Nat → Nat} {S W : Int → Int} {G : gM} {k : Nat} {e : va_E} (hH : hsR D X tg hid A S W G) (hk : (k : Int) < S 7) (hvo : ∀ i, 0 ≤ i → i < 138 → i ≠ 9 → i ≠ 10 → (i ≤ 11 + 13 * (k : Int) ∨ 11 + 13 * (k : Int) + 13 ≤ i) → viF S k i = S i) (h10 : viF S k 10 = S 10) (he : e = mtC A (viF S k) W k) : hsR D X tg hid A (viF S k) W (gup G (A (10 + k)) e) := by
  rw [he]
  exact hs_upM hH hk (fun i a b c d => by by_cases e : i = 10; (rw [e]; exact h10); exact hvo i a b c e d) (fun _ _ _ => rfl)
theorem visit_b {D : va_G} {X tg : Nat → Nat} {hid : Nat} {A : Nat → Nat} {S W : Int → Int} {G : gM} {k : Nat} {e : va_E} (hH : hsR D X tg hid A S W G) (hk : (k : Int) < S 7) (hvo : ∀ i, 0 ≤ i → i < 138 → i ≠ 9 → i ≠ 10 → (i ≤ 11 + 13 * (k : Int) ∨ 11 + 13 * (k : Int) + 13 ≤ i) → viF S k i = S i) (h10 : viF S k 10 = S 10 + 1) (he : e = mtC A (viF S k) W k) : hsR D X tg hid A (viF S k) W (gup (gup G (A 0) (hoO A (fu S 10 (S 10 + 1)))) (A (10 + k)) e) := by
  rw [he]
  have h1 := hs_upH (S' := fu S 10 (S 10 + 1)) hH (fun i a b c d e => fu_n e)
  have hb := hH.1
  exact hs_upM h1 (by rw [fu_n (by omega)]; exact hk) (fun i a b c d => by by_cases e : i = 10; (rw [e, fu_s]; exact h10); (rw [fu_n e]; exact hvo i a b c e d)) (fun _ _ _ => rfl)
theorem visit_f {D : va_G} {X tg : Nat → Nat} {hid : Nat} {A : Nat → Nat} {S W : Int → Int} {G : gM} {k : Nat} {e e' : va_E} (hH : hsR D X tg hid A S W G) (hk : (k : Int) < S 7) (h0 : usd S 0) (hh : (k : Int) < 7) : frH tg hid G (gup (gup G (A 0) e) (A (10 + k)) e') := frH_gup (frH_gup frH_rf (hH.2.1 _ us_0) (by omega)) (hH.2.1 _ (us_m hk)) (by omega)
theorem mw_X1_bill : mV "EnergyDiscs$House" yX1_bill cX1_bill 2 (some FieldType.int) 1 := ⟨⟨rfl, by decide +kernel, by decide +kernel, by decide +kernel⟩, q617, q618, q74, q619⟩
set_option maxHeartbeats 4000000 in
theorem m_X1_visit {l : Launch} {D : va_G} {X : Nat → Nat} {b0 : Nat} {tg : Nat → Nat} {hid : Nat} {A : Nat → Nat} {S W : Int → Int} {G : gM} (hH : hsR D X tg hid A S W G) {k : Nat} {N : Int} (hW : rowW S N) (hk : (k : Int) < S 7) : gMet l D X b0 yX1_visit cX1_visit 3 (some FieldType.int) (rmE 2 0 0) [.ref (A 0), .ref (A (10 + k))] G (pI fun r G' => r = biF S k ∧ hsR D X tg hid A (viF S k) W G' ∧ frH tg hid G G') := by
  refine gm_start (own := "EnergyDiscs$House") (lv := [some (.ref (A 0)), some (.ref (A (10 + k))), none]) (by decide +kernel) rfl (Nat.le_of_ble_eq_true rfl) rfl (fun p_ e_ s_ m_ args_ below_ meth_ c_ hc hnm => ?_)
  obtain ⟨hmk, -, -⟩ := hH.2.2.2.2.2.2.1 k hk
  have h7 := rw_7 hW
  have hmm := rw_m hW k (by omega) hk
  have hne0 : A 0 ≠ A (10 + k) := hs_ne hH us_0 (us_m hk) (by omega)
  have hvo : ∀ i, 0 ≤ i → i < 138 → i ≠ 9 → i ≠ 10 → (i ≤ 11 + 13 * (k : Int) ∨ 11 + 13 * (k : Int) + 13 ≤ i) → viF S k i = S i := fun i _ _ _ _ _ => viF_o (by omega) (by omega)
  have hv10 := viF_10 (S := S) (m := (k : Int)) (by omega)
  rw [show (0 : Int) + 11 + 13 * (k : Int) = 11 + 13 * (k : Int) by omega] at hv10
  refine gw_aload_n (q := 1) hc dX1_visit_0 rfl rfl xg_0 ?_
  refine gw_aload_n (q := 2) hc dX1_visit_1 rfl rfl xg_1 ?_
  refine gw_callV (q := 5) (bc' := 0) (bs' := 0) (As := [_]) hc dX1_visit_2 rfl q616 mw_X1_bill (rc_o hc cE_HO hH.2.2.1) rfl rfl (m_X1_bill hH hk) ⟨Nat.le_of_ble_eq_true rfl, Nat.le_of_ble_eq_true rfl⟩ (Nat.le_of_ble_eq_true rfl) (Nat.le_of_ble_eq_true rfl) (Nat.le_of_ble_eq_true rfl) (goI fun r2 G2 h2 => ?_)
  obtain ⟨rfl, hgg⟩ := h2
  rw [hgg]
  refine gw_istore_n (q := 6) hc dX1_visit_5 rfl rfl xs_2 (by decide) (n2p xg_1 rfl) ?_
  refine gw_aload_n (q := 7) hc dX1_visit_6 rfl rfl xg_1 ?_
  refine gw_dup (q := 8) hc dX1_visit_7 rfl rfl ?_
  refine gw_getN (q := 11) hc dX1_visit_8 rfl cE_ME 12 (by decide) q440 (fun _ h => h) hmk rfl ?_
  refine gw_iload_n (q := 12) hc dX1_visit_11 rfl rfl xg_2 ?_
  refine gw_iadd (q := 13) hc dX1_visit_12 rfl ?_
  refine gw_putN (q := 16) hc dX1_visit_13 rfl cE_ME 12 (by decide) q440 (fun _ h => h) rfl hmk ⟨rfl, rfl⟩ rfl (Nat.le_of_ble_eq_true rfl) ?_
  refine gw_aload_n (q := 17) hc dX1_visit_16 rfl rfl xg_1 ?_
  refine gw_aload_n (q := 18) hc dX1_visit_17 rfl rfl xg_1 ?_
  refine gw_getN (q := 21) hc dX1_visit_18 rfl cE_ME 8 (by decide) q430 (fun _ h => h) gup_s rfl ?_
  refine gw_putN (q := 24) hc dX1_visit_21 rfl cE_ME 10 (by decide) q436 (fun _ h => h) rfl gup_s ⟨rfl, rfl⟩ rfl (Nat.le_of_ble_eq_true rfl) ?_
  refine gw_G gup_gup ?_
  refine gw_aload_n (q := 25) hc dX1_visit_24 rfl rfl xg_1 ?_
  refine gw_aload_n (q := 26) hc dX1_visit_25 rfl rfl xg_1 ?_
  refine gw_getN (q := 29) hc dX1_visit_26 rfl cE_ME 9 (by decide) q433 (fun _ h => h) gup_s rfl ?_
  refine gw_putN (q := 32) hc dX1_visit_29 rfl cE_ME 11 (by decide) q438 (fun _ h => h) rfl gup_s ⟨rfl, rfl⟩ rfl (Nat.le_of_ble_eq_true rfl) ?_
  refine gw_G gup_gup ?_
  refine gw_aload_n (q := 33) hc dX1_visit_32 rfl rfl xg_1 ?_
  refine gw_bipush (q := 35) hc dX1_visit_33 rfl (by decide) ?_
  refine gw_putN (q := 38) hc dX1_visit_35 rfl cE_ME 6 (by decide) q424 (fun _ h => h) rfl gup_s ⟨rfl, rfl⟩ rfl (Nat.le_of_ble_eq_true rfl) ?_
  refine gw_G gup_gup ?_
  refine gw_aload_n (q := 39) hc dX1_visit_38 rfl rfl xg_1 ?_
  refine gw_iconst (q := 40) hc dX1_visit_39 rfl ?_
  refine gw_putN (q := 43) hc dX1_visit_40 rfl cE_ME 7 (by decide) q427 (fun _ h => h) rfl gup_s ⟨rfl, rfl⟩ rfl (Nat.le_of_ble_eq_true rfl) ?_
  refine gw_G gup_gup ?_
  refine gw_aload_n (q := 44) hc dX1_visit_43 rfl rfl xg_1 ?_
  refine gw_dup (q := 45) hc dX1_visit_44 rfl rfl ?_
  refine gw_getN (q := 48) hc dX1_visit_45 rfl cE_ME 13 (by decide) q443 (fun _ h => h) gup_s rfl ?_
  refine gw_iconst (q := 49) hc dX1_visit_48 rfl ?_
  refine gw_iadd (q := 50) hc dX1_visit_49 rfl ?_
  refine gw_putN (q := 53) hc dX1_visit_50 rfl cE_ME 13 (by decide) q443 (fun _ h => h) rfl gup_s ⟨rfl, rfl⟩ rfl (Nat.le_of_ble_eq_true rfl) ?_
  refine gw_G gup_gup ?_
  refine gw_aload_n (q := 54) hc dX1_visit_53 rfl rfl xg_1 ?_
  refine gw_getN (q := 57) hc dX1_visit_54 rfl cE_ME 15 (by decide) q449 (fun _ h => h) gup_s rfl ?_
  refine gw_if_eq  (q := 60) (t := 83) hc dX1_visit_57 rfl (by decide) (by omega) (fun c57 => ?_) (fun c57 => ?_)
  · skip
    refine gw_iload_n (q := 84) hc dX1_visit_83 rfl rfl xg_2 ?_
    exact gw_iret hc dX1_visit_84 ⟨_, rfl, ⟨rfl, visit_n hH hk hvo (by rw [hv10, if_neg (by omega)]) (by rw [show mtC A (viF S k) W k = _ from visit_cell, if_neg (by omega), if_neg (by omega)]; rfl), frH_gup frH_rf (hH.2.1 _ (us_m hk)) (by omega)⟩⟩
  · skip
    refine gw_aload_n (q := 61) hc dX1_visit_60 rfl rfl xg_0 ?_
    refine gw_dup (q := 62) hc dX1_visit_61 rfl rfl ?_
    refine gw_get (q := 65) hc dX1_visit_62 rfl cE_HO 4 (by decide) q150 (fun _ h => h) ((gup_n hne0).trans hH.2.2.1) rfl ?_
    refine gw_iconst (q := 66) hc dX1_visit_65 rfl ?_
    refine gw_iadd (q := 67) hc dX1_visit_66 rfl ?_
    refine gw_put (q := 70) hc dX1_visit_67 rfl cE_HO 4 (by decide) q150 (fun _ h => h) rfl ((gup_n hne0).trans hH.2.2.1) ⟨rfl, rfl⟩ rfl (Nat.le_of_ble_eq_true rfl) ?_
    refine gw_G (show _ = gup (gup G (A 0) (hoO A (fu S 10 (S 10 + 1)))) (A (10 + k)) _ from by rw [gup_comm (Ne.symm hne0)]; rfl) ?_
    refine gw_aload_n (q := 71) hc dX1_visit_70 rfl rfl xg_1 ?_
    refine gw_aload_n (q := 72) hc dX1_visit_71 rfl rfl xg_0 ?_
    refine gw_get (q := 75) hc dX1_visit_72 rfl cE_HO 4 (by decide) q150 (fun _ h => h) ((gup_n hne0).trans gup_s) rfl ?_
    refine gw_putN (q := 78) hc dX1_visit_75 rfl cE_ME 14 (by decide) q446 (fun _ h => h) rfl gup_s ⟨rfl, rfl⟩ rfl (Nat.le_of_ble_eq_true rfl) ?_
    refine gw_G gup_gup ?_
    refine gw_aload_n (q := 79) hc dX1_visit_78 rfl rfl xg_1 ?_
    refine gw_iconst (q := 80) hc dX1_visit_79 rfl ?_
    refine gw_putN (q := 83) hc dX1_visit_80 rfl cE_ME 15 (by decide) q449 (fun _ h => h) rfl gup_s (nz (by omega)) rfl (Nat.le_of_ble_eq_true rfl) ?_
    refine gw_G gup_gup ?_
    refine gw_iload_n (q := 84) hc dX1_visit_83 rfl rfl xg_2 ?_
    exact gw_iret hc dX1_visit_84 ⟨_, rfl, ⟨rfl, visit_b hH hk hvo (by rw [hv10, if_pos (by omega)]) (by rw [show mtC A (viF S k) W k = _ from visit_cell, if_pos (by omega), if_pos (by omega)]; rfl), visit_f hH hk (us_0) (by omega)⟩⟩

