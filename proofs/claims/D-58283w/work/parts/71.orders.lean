/-! ===== THE CLASS: orders carried out ===== -/
set_option maxRecDepth 100000
/-- what is the twin's stays -/
def frT (tg tg' : Nat → Nat) (G G' : gM) : Prop := ∀ q f, G q = some f → tg q / 100 = 994 → G' q = some f ∧ tg' q = tg q
section FRT
variable {D : va_G} {X tg tg' tg2 : Nat → Nat} {hid : Nat} {G G' G2 : gM}
theorem frT_tr (a : frT tg tg' G G') (b : frT tg' tg2 G' G2) : frT tg tg2 G G2 := fun q f hf h1 => by
  obtain ⟨c1, c2⟩ := a q f hf h1
  obtain ⟨d1, d2⟩ := b q f c1 (by rw [c2]; exact h1)
  exact ⟨d1, by rw [d2, c2]⟩
theorem frT_e (a : frE tg tg' G G') : frT tg tg' G G' := fun q f hf h1 => a q f hf (by omega) (by omega)
theorem frT_of (ht : tgR tg tg' hid G G') (hh : hid ≠ 994) : frT tg tg' G G' := fun q f hf h1 => ⟨ht.2.1 q f hf (by omega) (by omega), ht.1 q (nn_s hf) (by omega)⟩
theorem rd_fr {Pd qs : Int → Int} {ln sp wr n : Int} {rd e : Nat} (h : rdR D X tg Pd ln rd e sp wr n qs G) (hf : frE tg tg' G G') : rdR D X tg' Pd ln rd e sp wr n qs G' := by
  obtain ⟨ol, el, h1, ⟨h2, h3⟩, h4, h5⟩ := h
  obtain ⟨_, _, -, h6, -⟩ := id h4
  have k : ∀ q f, G q = some f → tg q / 100 = 992 → G' q = some f ∧ tg' q = tg q := fun q f a b => hf q f a (by omega) (by omega)
  exact ⟨ol, el, (k _ _ h1 (by omega)).1, ⟨by rw [(k _ _ h1 (by omega)).2]; exact h2, by rw [(k _ _ h6 (by omega)).2]; exact h3⟩, alR_mv h4 (fun f a => (k _ f a (by omega)).1) (fun q f a b => k q f a (by omega)), fun i a b => by
    obtain ⟨x1, x2⟩ := h5 i a b
    obtain ⟨y1, y2⟩ := k _ _ x2 (by omega)
    exact ⟨by rw [y2]; exact x1, y1⟩⟩
end FRT
/-- an order's error, its row -/
def wyK (S : Int → Int) (k : Nat) (f s : Int) : Int := if k = 0 then wnM S f else if k = 1 then wnL S f s else if k = 2 then wnO S f else if k = 3 then wnP S f else if k = 4 then wnT S f else wnI S f
def dsK (S : Int → Int) (k : Nat) (f s : Int) : Int → Int := if k = 0 then coF S f else if k = 1 then loF S f s else if k = 2 then tuF S f else if k = 3 then paF S f.toNat else if k = 4 then taF S f else viF S f
theorem wyK_0 {S : Int → Int} {f s : Int} : wyK S 0 f s = wnM S f ∧ dsK S 0 f s = coF S f := ⟨by unfold wyK; rw [if_pos rfl], by unfold dsK; rw [if_pos rfl]⟩
theorem wyK_1 {S : Int → Int} {f s : Int} : wyK S 1 f s = wnL S f s ∧ dsK S 1 f s = loF S f s := ⟨by unfold wyK; rw [if_neg (by omega), if_pos rfl], by unfold dsK; rw [if_neg (by omega), if_pos rfl]⟩
theorem wyK_2 {S : Int → Int} {f s : Int} : wyK S 2 f s = wnO S f ∧ dsK S 2 f s = tuF S f := ⟨by unfold wyK; rw [if_neg (by omega), if_neg (by omega), if_pos rfl], by unfold dsK; rw [if_neg (by omega), if_neg (by omega), if_pos rfl]⟩
theorem wyK_3 {S : Int → Int} {f s : Int} : wyK S 3 f s = wnP S f ∧ dsK S 3 f s = paF S f.toNat := ⟨by unfold wyK; rw [if_neg (by omega), if_neg (by omega), if_neg (by omega), if_pos rfl], by unfold dsK; rw [if_neg (by omega), if_neg (by omega), if_neg (by omega), if_pos rfl]⟩
theorem wyK_4 {S : Int → Int} {f s : Int} : wyK S 4 f s = wnT S f ∧ dsK S 4 f s = taF S f := ⟨by unfold wyK; rw [if_neg (by omega), if_neg (by omega), if_neg (by omega), if_neg (by omega), if_pos rfl], by unfold dsK; rw [if_neg (by omega), if_neg (by omega), if_neg (by omega), if_neg (by omega), if_pos rfl]⟩
theorem wyK_5 {S : Int → Int} {f s : Int} : wyK S 5 f s = wnI S f ∧ dsK S 5 f s = viF S f := ⟨by unfold wyK; rw [if_neg (by omega), if_neg (by omega), if_neg (by omega), if_neg (by omega), if_neg (by omega)], by unfold dsK; rw [if_neg (by omega), if_neg (by omega), if_neg (by omega), if_neg (by omega), if_neg (by omega)]⟩
theorem wyF_0 {S Pd : Int → Int} {ln q : Int} (c : cd Pd ln q = 109) : wyF Pd ln S q = wnM S (if dg Pd ln (q + 1) < 0 then 0 else dg Pd ln (q + 1)) ∧ dsF Pd ln S q = coF S (if dg Pd ln (q + 1) < 0 then 0 else dg Pd ln (q + 1)) := ⟨by unfold wyF; rw [if_pos c], by unfold dsF; rw [if_pos c]⟩
theorem wyF_1 {S Pd : Int → Int} {ln q : Int} (c : cd Pd ln q = 108) : wyF Pd ln S q = wnL S (dg Pd ln (q + 1)) (nuF Pd ln (q + 3)) ∧ dsF Pd ln S q = loF S (dg Pd ln (q + 1)) (nuF Pd ln (q + 3)) := ⟨by unfold wyF; rw [if_neg (by omega), if_pos c], by unfold dsF; rw [if_neg (by omega), if_pos c]⟩
theorem wyF_2 {S Pd : Int → Int} {ln q : Int} (c : cd Pd ln q = 115) : wyF Pd ln S q = wnO S (nuF Pd ln (q + 1)) ∧ dsF Pd ln S q = tuF S (nuF Pd ln (q + 1)) := ⟨by unfold wyF; rw [if_neg (by omega), if_neg (by omega), if_pos c], by unfold dsF; rw [if_neg (by omega), if_neg (by omega), if_pos c]⟩
theorem wyF_3 {S Pd : Int → Int} {ln q : Int} (c : cd Pd ln q = 116) : wyF Pd ln S q = wnP S (nuF Pd ln (q + 1)) ∧ dsF Pd ln S q = paF S (nuF Pd ln (q + 1)).toNat := ⟨by unfold wyF; rw [if_neg (by omega), if_neg (by omega), if_neg (by omega), if_pos c], by unfold dsF; rw [if_neg (by omega), if_neg (by omega), if_neg (by omega), if_pos c]⟩
theorem wyF_4 {S Pd : Int → Int} {ln q : Int} (c : cd Pd ln q = 98) : wyF Pd ln S q = wnT S (dg Pd ln (q + 1)) ∧ dsF Pd ln S q = taF S (dg Pd ln (q + 1)) := ⟨by unfold wyF; rw [if_neg (by omega), if_neg (by omega), if_neg (by omega), if_neg (by omega), if_pos c], by unfold dsF; rw [if_neg (by omega), if_neg (by omega), if_neg (by omega), if_neg (by omega), if_pos c]⟩
theorem wyF_5 {S Pd : Int → Int} {ln q : Int} (c : cd Pd ln q = 118) : wyF Pd ln S q = wnI S (dg Pd ln (q + 1)) ∧ dsF Pd ln S q = viF S (dg Pd ln (q + 1)) := ⟨by unfold wyF; rw [if_neg (by omega), if_neg (by omega), if_neg (by omega), if_neg (by omega), if_neg (by omega)], by unfold dsF; rw [if_neg (by omega), if_neg (by omega), if_neg (by omega), if_neg (by omega), if_neg (by omega)]⟩
theorem or_wy {Pd S : Int → Int} {ln q N : Int} (hW : rowW S N) (h0 : 0 ≤ q) (hk : kwF (cd Pd ln q) ≠ 6) (ho : 0 ≤ oeF Pd ln q) : wyK S (kwF (cd Pd ln q)) (orA Pd ln (kwF (cd Pd ln q)) (q + 1)) (orB Pd ln (kwF (cd Pd ln q)) (q + 1)) = wyF Pd ln S q ∧ dsK S (kwF (cd Pd ln q)) (orA Pd ln (kwF (cd Pd ln q)) (q + 1)) (orB Pd ln (kwF (cd Pd ln q)) (q + 1)) = dsF Pd ln S q := by
  obtain ⟨k0, k1, k2, k3, k4, k5, k6⟩ := kw_c (z := cd Pd ln q)
  have ld : 0 ≤ dg Pd ln (q + 1) → ldA Pd ln (q + 1) = dg Pd ln (q + 1) := fun z => if_neg (by omega)
  rcases (by omega : kwF (cd Pd ln q) = 0 ∨ kwF (cd Pd ln q) = 1 ∨ kwF (cd Pd ln q) = 2 ∨ kwF (cd Pd ln q) = 3 ∨ kwF (cd Pd ln q) = 4 ∨ kwF (cd Pd ln q) = 5) with e | e | e | e | e | e
  · have c := k0.mp e
    rw [e, or_0.1, wyK_0.1, wyK_0.2, (wyF_0 c).1, (wyF_0 c).2]
    exact ⟨rfl, rfl⟩
  · have c := k1.mp e
    unfold oeF at ho
    rw [if_neg (by omega), if_pos c] at ho
    have hd : 0 ≤ dg Pd ln (q + 1) := by split at ho <;> omega
    rw [if_neg (by omega)] at ho
    have hc : cd Pd ln (q + 1 + 1) = 61 := by
      rw [show q + 1 + 1 = q + 2 by omega]
      split at ho
      · assumption
      · omega
    rw [e, or_1.1, or_1.2.1, (ld_e hd hc).1, (ld_e hd hc).2.1, show q + 1 + 2 = q + 3 by omega, wyK_1.1, wyK_1.2, (wyF_1 c).1, (wyF_1 c).2]
    exact ⟨rfl, rfl⟩
  · have c := k2.mp e
    rw [e, (or_2 (Or.inl rfl)).1, wyK_2.1, wyK_2.2, (wyF_2 c).1, (wyF_2 c).2]
    exact ⟨rfl, rfl⟩
  · have c := k3.mp e
    rw [e, (or_2 (Or.inr rfl)).1, wyK_3.1, wyK_3.2, (wyF_3 c).1, (wyF_3 c).2]
    exact ⟨rfl, rfl⟩
  · have c := k4.mp e
    unfold oeF at ho
    rw [if_neg (by omega), if_neg (by omega), if_neg (by omega), if_pos (Or.inl c)] at ho
    have hd : 0 ≤ dg Pd ln (q + 1) := by split at ho <;> omega
    rw [e, (or_4 (Or.inl rfl)).1, ld hd, wyK_4.1, wyK_4.2, (wyF_4 c).1, (wyF_4 c).2]
    exact ⟨rfl, rfl⟩
  · have c := k5.mp e
    unfold oeF at ho
    rw [if_neg (by omega), if_neg (by omega), if_neg (by omega), if_pos (Or.inr c)] at ho
    have hd : 0 ≤ dg Pd ln (q + 1) := by split at ho <;> omega
    rw [e, (or_4 (Or.inr rfl)).1, ld hd, wyK_5.1, wyK_5.2, (wyF_5 c).1, (wyF_5 c).2]
    exact ⟨rfl, rfl⟩
theorem orA_b {Pd : Int → Int} {ln q : Int} {k : Nat} (h0 : 0 ≤ q) : 0 ≤ orA Pd ln k q ∧ orA Pd ln k q ≤ 9999 := by
  have n1 := nuF_bd (Pd := Pd) (ln := ln) h0
  have d1 := dg_r (Pd := Pd) (ln := ln) (q := q)
  unfold orA ldA
  (repeat' split) <;> omega
theorem orB_b {Pd : Int → Int} {ln q : Int} {k : Nat} (h0 : 0 ≤ q) : 0 ≤ orB Pd ln k q ∧ orB Pd ln k q ≤ 9999 := by
  have n1 := nuF_bd (Pd := Pd) (ln := ln) (q := q + 2) (by omega)
  unfold orB ldB
  (repeat' split) <;> omega

set_option maxHeartbeats 4000000 in
theorem m_X0_begun_z {l : Launch} {D : va_G} {X : Nat → Nat} {b0 : Nat} {tg : Nat → Nat} {e nid pl sv pd : Nat} {h : Int → Nat} {A : Int → Nat → Nat} {S P L V Pd : Int → Int} {kn ln N : Int} {G : gM} (hC : edC D X tg e nid pl sv pd h A S P kn L V Pd ln G) (hW : rowW S N) (hn : nid < 890) {er : Int} (her : rI er) : gMet l D X b0 yX0_begun cX0_begun 3 (some FieldType.int) (rmE 0 0 0) [.ref e, .int (iI er), .int (iI 0)] G (pI fun r G' => r = er ∧ ((er ≠ 0 ∧ G' = G) ∨ (er = 0 ∧ ∃ tg' : Nat → Nat, frE tg tg' G G' ∧ ∃ (h2 : Int → Nat) (A2 : Int → Nat → Nat), edC D X tg' e nid pl sv pd h2 A2 S P kn L V Pd ln G'))) := by
  refine gm_start (own := "EnergyDiscs") (lv := [some (.ref e), some (.int (iI er)), some (.int (iI 0))]) (by decide +kernel) rfl (Nat.le_of_ble_eq_true rfl) rfl (fun p_ e_ s_ m_ args_ below_ meth_ c_ hc hnm => ?_)
  obtain ⟨hlt, W, hH⟩ := ed_H hC
  obtain ⟨mcm, arm, hmcm, hMc, hMa, -⟩ := alR_P hH.2.2.2.2.1
  obtain ⟨mcl, arl, hmcl, hLc, hLa, -⟩ := alR_P hH.2.2.2.2.2.1
  have hb := hH.1
  refine gw_iload_n (q := 1) hc dX0_begun_0 rfl rfl xg_1 ?_
  refine gw_if_ne  (q := 4) (t := 12) hc dX0_begun_1 rfl (by decide) (by omega) (fun c1 => ?_) (fun c1 => ?_)
  · skip
    refine gw_iload_n (q := 13) hc dX0_begun_12 rfl rfl xg_1 ?_
    exact gw_iret hc dX0_begun_13 ⟨_, rfl, ⟨rfl, Or.inl ⟨c1, rfl⟩⟩⟩
  · skip
    refine gw_iload_n (q := 5) hc dX0_begun_4 rfl rfl xg_2 ?_
    refine gw_if_eq  (q := 8) (t := 12) hc dX0_begun_5 rfl (by decide) (by omega) (fun c5 => ?_) (fun c5 => ?_)
    · skip
      refine gw_iload_n (q := 13) hc dX0_begun_12 rfl rfl xg_1 ?_
      exact gw_iret hc dX0_begun_13 ⟨_, rfl, ⟨rfl, Or.inr ⟨c1, tg, frE_rf, h, A, hC⟩⟩⟩
    · exfalso; omega

set_option maxHeartbeats 4000000 in
theorem m_X0_comes_z {l : Launch} {D : va_G} {X : Nat → Nat} {b0 : Nat} {tg : Nat → Nat} {e nid pl sv pd : Nat} {h : Int → Nat} {A : Int → Nat → Nat} {S P L V Pd : Int → Int} {kn ln N : Int} {G : gM} (hC : edC D X tg e nid pl sv pd h A S P kn L V Pd ln G)  (hW : rowW S N) (hn : nid < 890) {t : Int} (ht : rI t) : gMet l D X b0 yX0_comes cX0_comes 4 (some FieldType.int) (rmE 10 5 151) [.ref e, .int (iI t), .int (iI 0)] G (edQ D X tg e nid (coF S t) P kn L V Pd ln G (wnM S t) (S 7)) := by
  refine gm_start (own := "EnergyDiscs") (lv := [some (.ref e), some (.int (iI t)), some (.int (iI 0)), none]) (by decide +kernel) rfl (Nat.le_of_ble_eq_true rfl) rfl (fun p_ e_ s_ m_ args_ below_ meth_ c_ hc hnm => ?_)
  obtain ⟨hlt, W, hH⟩ := ed_H hC
  obtain ⟨mcm, arm, hmcm, hMc, hMa, -⟩ := alR_P hH.2.2.2.2.1
  obtain ⟨mcl, arl, hmcl, hLc, hLa, -⟩ := alR_P hH.2.2.2.2.2.1
  have hb := hH.1
  have hwr : -5 ≤ wnM S t ∧ wnM S t ≤ 0 := by unfold wnM; (repeat' split) <;> omega
  obtain ⟨k, hk⟩ : ∃ k : Nat, S 7 = k := ⟨(S 7).toNat, by omega⟩
  refine gw_aload_n (q := 1) hc dX0_comes_0 rfl rfl xg_0 ?_
  refine gw_aload_n (q := 2) hc dX0_comes_1 rfl rfl xg_0 ?_
  refine gw_iload_n (q := 3) hc dX0_comes_2 rfl rfl xg_1 ?_
  refine gw_callV (q := 6) (bc' := 5) (bs' := 151) (As := [_]) hc dX0_comes_3 rfl q535 mw_X0_whyNotMeter (rc_o hc cE_ED hC.1.1) rfl rfl (m_X0_whyNotMeter hC hW ht) ⟨Nat.le_of_ble_eq_true rfl, Nat.le_of_ble_eq_true rfl⟩ (Nat.le_of_ble_eq_true rfl) (Nat.le_of_ble_eq_true rfl) (Nat.le_of_ble_eq_true rfl) (goI fun r3 G3 h3 => ?_)
  obtain ⟨er3, hgg⟩ := h3
  rw [hgg, er3]
  refine gw_iload_n (q := 7) hc dX0_comes_6 rfl rfl xg_2 ?_
  refine gw_callV (q := 10) (bc' := 5) (bs' := 151) (As := [_, _]) hc dX0_comes_7 rfl q223 mw_X0_begun (rc_o hc cE_ED hC.1.1) rfl rfl (m_X0_begun_z hC hW hn (by omega)) ⟨Nat.le_of_ble_eq_true rfl, Nat.le_of_ble_eq_true rfl⟩ (Nat.le_of_ble_eq_true rfl) (Nat.le_of_ble_eq_true rfl) (Nat.le_of_ble_eq_true rfl) (goI fun r7 G7 h7 => ?_)
  obtain ⟨er7, hcase⟩ := h7
  rw [er7]
  refine gw_istore_n (q := 11) hc dX0_comes_10 rfl rfl xs_3 (by decide) (n2p xg_2 rfl) ?_
  refine gw_iload_n (q := 12) hc dX0_comes_11 rfl rfl xg_3 ?_
  refine gw_if_ge  (q := 15) (t := 19) hc dX0_comes_12 rfl (by decide) (by omega) (fun c12 => ?_) (fun c12 => ?_)
  · obtain ⟨hw0, tg1, hf1, h2, A2, hC2⟩ : wnM S t = 0 ∧ ∃ tg1 : Nat → Nat, frE tg tg1 G G7 ∧ ∃ (h2 : Int → Nat) (A2 : Int → Nat → Nat), edC D X tg1 e nid pl sv pd h2 A2 S P kn L V Pd ln G7 := by rcases hcase with ⟨q, -⟩ | q; (exfalso; omega); exact q
    obtain ⟨hlt2, W2, hH2⟩ := ed_H hC2
    obtain ⟨mcm2, arm2, hmcm2, hMc2, hMa2, -⟩ := alR_P hH2.2.2.2.2.1
    obtain ⟨mcl2, arl2, hmcl2, hLc2, hLa2, -⟩ := alR_P hH2.2.2.2.2.2.1
    refine gw_aload_n (q := 20) hc dX0_comes_19 rfl rfl xg_0 ?_
    refine gw_get (q := 23) hc dX0_comes_20 rfl cE_ED 0 (by decide) q198 (fun _ h => h) hC2.1.1 rfl ?_
    refine gw_iload_n (q := 24) hc dX0_comes_23 rfl rfl xg_1 ?_
    refine gw_callV (q := 27) (bc' := 0) (bs' := 0) (As := [_]) hc dX0_comes_24 rfl q552 mw_X1_newMeter (rc_o hc cE_HO hH2.2.2.1) rfl rfl (m_X1_newMeter hH2 hW (by omega) hk hw0 ht) ⟨Nat.le_of_ble_eq_true rfl, Nat.le_of_ble_eq_true rfl⟩ (Nat.le_of_ble_eq_true rfl) (Nat.le_of_ble_eq_true rfl) (Nat.le_of_ble_eq_true rfl) (goI fun r24 G24 h24 => ?_)
    obtain ⟨er24, tg3, A3, W3, ht3, hH3, hA3⟩ := h24
    rw [er24]
    exact gw_iret hc dX0_comes_27 ⟨_, rfl, Or.inr ⟨hw0, rfl, tg3, frE_tr hf1 (frE_of ht3 (by omega)), pl, sv, pd, _, _, ed_now hC2 ht3 hH3 (hA3 0 us_0) (by omega)⟩⟩
  · have hgg : G7 = G := by rcases hcase with ⟨-, q⟩ | ⟨q, -⟩; (exact q); omega
    rw [hgg]
    refine gw_iload_n (q := 16) hc dX0_comes_15 rfl rfl xg_3 ?_
    refine gw_goto (q := 27) hc dX0_comes_16 (by decide) ?_
    exact gw_iret hc dX0_comes_27 ⟨_, rfl, Or.inl ⟨by omega, rfl, rfl⟩⟩

set_option maxHeartbeats 4000000 in
theorem m_X0_connects_z {l : Launch} {D : va_G} {X : Nat → Nat} {b0 : Nat} {tg : Nat → Nat} {e nid pl sv pd : Nat} {h : Int → Nat} {A : Int → Nat → Nat} {S P L V Pd : Int → Int} {kn ln N : Int} {G : gM} (hC : edC D X tg e nid pl sv pd h A S P kn L V Pd ln G)  (hW : rowW S N) (hn : nid < 890) {m w : Int} (hm : rI m) (hw : rI w) : gMet l D X b0 yX0_connects cX0_connects 5 (some FieldType.int) (rmE 8 3 131) [.ref e, .int (iI m), .int (iI w), .int (iI 0)] G (edQ D X tg e nid (loF S m w) P kn L V Pd ln G (wnL S m w) (S 8)) := by
  refine gm_start (own := "EnergyDiscs") (lv := [some (.ref e), some (.int (iI m)), some (.int (iI w)), some (.int (iI 0)), none]) (by decide +kernel) rfl (Nat.le_of_ble_eq_true rfl) rfl (fun p_ e_ s_ m_ args_ below_ meth_ c_ hc hnm => ?_)
  obtain ⟨hlt, W, hH⟩ := ed_H hC
  obtain ⟨mcm, arm, hmcm, hMc, hMa, -⟩ := alR_P hH.2.2.2.2.1
  obtain ⟨mcl, arl, hmcl, hLc, hLa, -⟩ := alR_P hH.2.2.2.2.2.1
  have hb := hH.1
  have hwr : -5 ≤ wnL S m w ∧ wnL S m w ≤ 0 := by unfold wnL; (repeat' split) <;> omega
  obtain ⟨nd, hnd⟩ : ∃ nd : Nat, S 8 = nd := ⟨(S 8).toNat, by omega⟩
  refine gw_aload_n (q := 1) hc dX0_connects_0 rfl rfl xg_0 ?_
  refine gw_aload_n (q := 2) hc dX0_connects_1 rfl rfl xg_0 ?_
  refine gw_iload_n (q := 3) hc dX0_connects_2 rfl rfl xg_1 ?_
  refine gw_iload_n (q := 4) hc dX0_connects_3 rfl rfl xg_2 ?_
  refine gw_callV (q := 7) (bc' := 3) (bs' := 131) (As := [_, _]) hc dX0_connects_4 rfl q566 mw_X0_whyNotLoad (rc_o hc cE_ED hC.1.1) rfl rfl (m_X0_whyNotLoad hC hW hm hw) ⟨Nat.le_of_ble_eq_true rfl, Nat.le_of_ble_eq_true rfl⟩ (Nat.le_of_ble_eq_true rfl) (Nat.le_of_ble_eq_true rfl) (Nat.le_of_ble_eq_true rfl) (goI fun r4 G4 h4 => ?_)
  obtain ⟨er4, hgg⟩ := h4
  rw [hgg, er4]
  refine gw_iload_n (q := 8) hc dX0_connects_7 rfl rfl xg_3 ?_
  refine gw_callV (q := 11) (bc' := 3) (bs' := 131) (As := [_, _]) hc dX0_connects_8 rfl q223 mw_X0_begun (rc_o hc cE_ED hC.1.1) rfl rfl (m_X0_begun_z hC hW hn (by omega)) ⟨Nat.le_of_ble_eq_true rfl, Nat.le_of_ble_eq_true rfl⟩ (Nat.le_of_ble_eq_true rfl) (Nat.le_of_ble_eq_true rfl) (Nat.le_of_ble_eq_true rfl) (goI fun r8 G8 h8 => ?_)
  obtain ⟨er8, hcase⟩ := h8
  rw [er8]
  refine gw_istore (q := 13) hc dX0_connects_11 rfl xs_4 (by decide) (n2p xg_3 rfl) ?_
  refine gw_iload (q := 15) hc dX0_connects_13 rfl xg_4 ?_
  refine gw_if_ge  (q := 18) (t := 23) hc dX0_connects_15 rfl (by decide) (by omega) (fun c15 => ?_) (fun c15 => ?_)
  · obtain ⟨hw0, tg1, hf1, h2, A2, hC2⟩ : wnL S m w = 0 ∧ ∃ tg1 : Nat → Nat, frE tg tg1 G G8 ∧ ∃ (h2 : Int → Nat) (A2 : Int → Nat → Nat), edC D X tg1 e nid pl sv pd h2 A2 S P kn L V Pd ln G8 := by rcases hcase with ⟨q, -⟩ | q; (exfalso; omega); exact q
    obtain ⟨hlt2, W2, hH2⟩ := ed_H hC2
    obtain ⟨mcm2, arm2, hmcm2, hMc2, hMa2, -⟩ := alR_P hH2.2.2.2.2.1
    obtain ⟨mcl2, arl2, hmcl2, hLc2, hLa2, -⟩ := alR_P hH2.2.2.2.2.2.1
    refine gw_aload_n (q := 24) hc dX0_connects_23 rfl rfl xg_0 ?_
    refine gw_get (q := 27) hc dX0_connects_24 rfl cE_ED 0 (by decide) q198 (fun _ h => h) hC2.1.1 rfl ?_
    refine gw_new (q := 30) (fs := [.int (iI 0), .int (iI 0), .int (iI 0)]) hc dX0_connects_27 rfl cE_LO q570 q500 q91 (fun j hj => by rcases (by omega : j = 0 ∨ j = 1 ∨ j = 2) with rfl | rfl | rfl <;> rfl) (bc' := 2) (bs' := 128) (Nat.le_of_ble_eq_true rfl) (Nat.le_of_ble_eq_true rfl) (fun x hnx hbx => ?_)
    have htx := tgR_new (tg := tg1) (hid := 998) (t := 99900) (e := oE 4 [.int (iI 0), .int (iI 0), .int (iI 0)]) hnx (Or.inr (by omega))
    have hCx := ed_oth hC2 htx (by omega) (by omega)
    refine gw_dup (q := 31) hc dX0_connects_30 rfl rfl ?_
    refine gw_iload_n (q := 32) hc dX0_connects_31 rfl rfl xg_1 ?_
    refine gw_iload_n (q := 33) hc dX0_connects_32 rfl rfl xg_2 ?_
    refine gw_callI (q := 36) (bc' := 2) (bs' := 128) (As := [_, _]) hc dX0_connects_33 rfl q571 mw_X4_init rfl rfl (m_X4_init gup_s) ⟨Nat.le_of_ble_eq_true rfl, Nat.le_of_ble_eq_true rfl⟩ (Nat.le_of_ble_eq_true rfl) (Nat.le_of_ble_eq_true rfl) (Nat.le_of_ble_eq_true rfl) (goV fun G33 h33 => ?_)
    subst h33
    refine gw_G gup_gup ?_
    have hta := tgR_new (tg := tg1) (hid := 998) (t := 99900) (e := loO w m 0) hnx (Or.inr (by omega))
    have hCa := ed_oth hC2 hta (by omega) (by omega)
    have hHa := hs_nw (t := 99900) (e := loO w m 0) hH2 hnx
    have hwl := hw0
    unfold wnL at hwl
    have hmr : 0 ≤ m ∧ m < S 7 := by (repeat' split at hwl) <;> omega
    have h812 : S 8 < 12 := by (repeat' split at hwl) <;> omega
    obtain ⟨mt, rfl⟩ : ∃ mt : Nat, m = mt := ⟨m.toNat, by omega⟩
    refine gw_callV (q := 39) (bc' := 0) (bs' := 0) (As := [_]) hc dX0_connects_36 rfl q572 mw_X1_addLoad (rc_o hc cE_HO hHa.2.2.1) rfl rfl (m_X1_addLoad hHa hW.1.1 hW.1.2.1 (S' := loF S (mt : Int) w) (nd := nd) (mt := mt) hnd (loF_m hnd) (by omega) (by rw [loC_new hnd]; exact gup_s) (by show (if x = x then 99900 else tg1 x) / 100 = 999; rw [if_pos rfl]) (by omega) (by omega) (loF_8 (by omega)) (fun i a b c d f => loF_o (by omega) (by omega) c)) ⟨Nat.le_of_ble_eq_true rfl, Nat.le_of_ble_eq_true rfl⟩ (Nat.le_of_ble_eq_true rfl) (Nat.le_of_ble_eq_true rfl) (Nat.le_of_ble_eq_true rfl) (goI fun r36 G36 h36 => ?_)
    obtain ⟨er36, tg3, ht3, hH3⟩ := h36
    rw [er36]
    exact gw_iret hc dX0_connects_39 ⟨_, rfl, Or.inr ⟨hw0, hnd.symm, tg3, frE_tr hf1 (frE_tr (frE_of hta (by omega)) (frE_of ht3 (by omega))), pl, sv, pd, _, _, ed_now hCa ht3 hH3 (A_lo_o (by omega)) (by omega)⟩⟩
  · have hgg : G8 = G := by rcases hcase with ⟨-, q⟩ | ⟨q, -⟩; (exact q); omega
    rw [hgg]
    refine gw_iload (q := 20) hc dX0_connects_18 rfl xg_4 ?_
    refine gw_goto (q := 39) hc dX0_connects_20 (by decide) ?_
    exact gw_iret hc dX0_connects_39 ⟨_, rfl, Or.inl ⟨by omega, rfl, rfl⟩⟩

set_option maxHeartbeats 4000000 in
theorem m_X0_turns_z {l : Launch} {D : va_G} {X : Nat → Nat} {b0 : Nat} {tg : Nat → Nat} {e nid pl sv pd : Nat} {h : Int → Nat} {A : Int → Nat → Nat} {S P L V Pd : Int → Int} {kn ln N : Int} {G : gM} (hC : edC D X tg e nid pl sv pd h A S P kn L V Pd ln G)  (hW : rowW S N) (hn : nid < 890) {j : Int} (hj : rI j) : gMet l D X b0 yX0_turns cX0_turns 4 (some FieldType.int) (rmE 3 0 0) [.ref e, .int (iI j), .int (iI 0)] G (edQ D X tg e nid (tuF S j) P kn L V Pd ln G (wnO S j) (1 - S (102 + 3 * j + 2))) := by
  refine gm_start (own := "EnergyDiscs") (lv := [some (.ref e), some (.int (iI j)), some (.int (iI 0)), none]) (by decide +kernel) rfl (Nat.le_of_ble_eq_true rfl) rfl (fun p_ e_ s_ m_ args_ below_ meth_ c_ hc hnm => ?_)
  obtain ⟨hlt, W, hH⟩ := ed_H hC
  obtain ⟨mcm, arm, hmcm, hMc, hMa, -⟩ := alR_P hH.2.2.2.2.1
  obtain ⟨mcl, arl, hmcl, hLc, hLa, -⟩ := alR_P hH.2.2.2.2.2.1
  have hb := hH.1
  refine gw_aload_n (q := 1) hc dX0_turns_0 rfl rfl xg_0 ?_
  refine gw_aload_n (q := 2) hc dX0_turns_1 rfl rfl xg_0 ?_
  refine gw_iload_n (q := 3) hc dX0_turns_2 rfl rfl xg_1 ?_
  refine gw_callV (q := 6) (bc' := 0) (bs' := 0) (As := [_]) hc dX0_turns_3 rfl q581 mw_X0_isLoad (rc_o hc cE_ED hC.1.1) rfl rfl (m_X0_isLoad hC hj) ⟨Nat.le_of_ble_eq_true rfl, Nat.le_of_ble_eq_true rfl⟩ (Nat.le_of_ble_eq_true rfl) (Nat.le_of_ble_eq_true rfl) (Nat.le_of_ble_eq_true rfl) (goI fun r3 G3 h3 => ?_)
  obtain ⟨b3, hgg⟩ := h3
  rw [hgg]
  refine gw_if_eq  (q := 9) (t := 13) hc dX0_turns_6 rfl (by decide) (by omega) (fun c6 => ?_) (fun c6 => ?_)
  · skip
    refine gw_iconst (q := 14) hc dX0_turns_13 rfl ?_
    refine gw_iload_n (q := 15) hc dX0_turns_14 rfl rfl xg_2 ?_
    refine gw_callV (q := 18) (bc' := 0) (bs' := 0) (As := [_, _]) hc dX0_turns_15 rfl q223 mw_X0_begun (rc_o hc cE_ED hC.1.1) rfl rfl (m_X0_begun_z hC hW hn (by omega)) ⟨Nat.le_of_ble_eq_true rfl, Nat.le_of_ble_eq_true rfl⟩ (Nat.le_of_ble_eq_true rfl) (Nat.le_of_ble_eq_true rfl) (Nat.le_of_ble_eq_true rfl) (goI fun r15 G15 h15 => ?_)
    obtain ⟨er15, hcase⟩ := h15
    rw [er15]
    refine gw_istore_n (q := 19) hc dX0_turns_18 rfl rfl xs_3 (by decide) (n2p xg_2 rfl) ?_
    refine gw_iload_n (q := 20) hc dX0_turns_19 rfl rfl xg_3 ?_
    refine gw_if_ge  (q := 23) (t := 25) hc dX0_turns_20 rfl (by decide) (by omega) (fun c20 => ?_) (fun c20 => ?_)
    · obtain ⟨hw0, tg1, hf1, h2, A2, hC2⟩ : (0 ≤ j ∧ j < S 8) ∧ ∃ tg1 : Nat → Nat, frE tg tg1 G G15 ∧ ∃ (h2 : Int → Nat) (A2 : Int → Nat → Nat), edC D X tg1 e nid pl sv pd h2 A2 S P kn L V Pd ln G15 := by rcases hcase with ⟨q, -⟩ | q; (exfalso; omega); exact ⟨by omega, q.2⟩
      obtain ⟨hlt2, W2, hH2⟩ := ed_H hC2
      obtain ⟨mcm2, arm2, hmcm2, hMc2, hMa2, -⟩ := alR_P hH2.2.2.2.2.1
      obtain ⟨mcl2, arl2, hmcl2, hLc2, hLa2, -⟩ := alR_P hH2.2.2.2.2.2.1
      obtain ⟨k, rfl⟩ : ∃ k : Nat, j = k := ⟨j.toNat, by omega⟩
      have hk8 : (k : Int) < S 8 := by omega
      have hlo := hH2.2.2.2.2.2.2.2 k hk8
      have hlw := (hW.1.2.1.2 (k : Int) (by omega) (by omega)).2.2
      obtain ⟨cap, f, hA1, hf1b, hb1, hfi⟩ := alP_get hLa2 (i := (k : Int)) (by omega) (by omega)
      refine gw_aload_n (q := 26) hc dX0_turns_25 rfl rfl xg_0 ?_
      refine gw_get (q := 29) hc dX0_turns_26 rfl cE_ED 0 (by decide) q198 (fun _ h => h) hC2.1.1 rfl ?_
      refine gw_getN (q := 32) hc dX0_turns_29 rfl cE_HO 2 (by decide) q147 (fun _ h => h) hH2.2.2.1 rfl ?_
      refine gw_iload_n (q := 33) hc dX0_turns_32 rfl rfl xg_1 ?_
      refine gw_callF (q := 38) (bc' := 0) (bs' := 0) (As := [_]) hc dX0_turns_33 rfl cE_AL q586 mf_J2_get_7 rfl rfl (m_J2_get hLc2 hA1 (by omega) (by omega) hfi) (rc_o hc cE_AL hLc2) ⟨Nat.le_of_ble_eq_true rfl, Nat.le_of_ble_eq_true rfl⟩ (Nat.le_of_ble_eq_true rfl) (Nat.le_of_ble_eq_true rfl) (Nat.le_of_ble_eq_true rfl) (goA fun r33 G33 h33 => ?_)
      obtain ⟨er33, hgg⟩ := h33
      have er33b : r33 = A2 (-1) (60 + k) := by rw [er33]; show A2 (-1) (60 + (k : Int).toNat) = _; rw [Int.toNat_natCast]
      rw [hgg, er33b]
      refine gw_cast (q := 41) hc dX0_turns_38 rfl q570 (rc_o hc cE_LO hlo) ?_
      refine gw_aload_n (q := 42) hc dX0_turns_41 rfl rfl xg_0 ?_
      refine gw_get (q := 45) hc dX0_turns_42 rfl cE_ED 0 (by decide) q198 (fun _ h => h) hC2.1.1 rfl ?_
      refine gw_getN (q := 48) hc dX0_turns_45 rfl cE_HO 2 (by decide) q147 (fun _ h => h) hH2.2.2.1 rfl ?_
      refine gw_iload_n (q := 49) hc dX0_turns_48 rfl rfl xg_1 ?_
      refine gw_callF (q := 54) (bc' := 0) (bs' := 0) (As := [_]) hc dX0_turns_49 rfl cE_AL q586 mf_J2_get_7 rfl rfl (m_J2_get hLc2 hA1 (by omega) (by omega) hfi) (rc_o hc cE_AL hLc2) ⟨Nat.le_of_ble_eq_true rfl, Nat.le_of_ble_eq_true rfl⟩ (Nat.le_of_ble_eq_true rfl) (Nat.le_of_ble_eq_true rfl) (Nat.le_of_ble_eq_true rfl) (goA fun r49 G49 h49 => ?_)
      obtain ⟨er49, hgg⟩ := h49
      have er49b : r49 = A2 (-1) (60 + k) := by rw [er49]; show A2 (-1) (60 + (k : Int).toNat) = _; rw [Int.toNat_natCast]
      rw [hgg, er49b]
      refine gw_cast (q := 57) hc dX0_turns_54 rfl q570 (rc_o hc cE_LO hlo) ?_
      refine gw_getN (q := 60) hc dX0_turns_57 rfl cE_LO 2 (by decide) q513 (fun _ h => h) hlo rfl ?_
      refine gw_if_ne  (q := 63) (t := 67) hc dX0_turns_60 rfl (by decide) (by omega) (fun c60 => ?_) (fun c60 => ?_)
      · skip
        refine gw_iconst (q := 68) hc dX0_turns_67 rfl ?_
        refine gw_putN (q := 71) hc dX0_turns_68 rfl cE_LO 2 (by decide) q513 (fun _ h => h) rfl hlo (nz (by omega)) rfl (Nat.le_of_ble_eq_true rfl) ?_
        have hon : (0 : Int) = 1 - S (102 + 3 * (k : Int) + 2) := by omega
        refine gw_G (show _ = gup G15 (A2 (-1) (60 + k)) (loC (tuF S (k : Int)) k) from by unfold loC; rw [show tuF S (k : Int) (102 + 3 * (k : Int) + 2) = 1 - S (102 + 3 * (k : Int) + 2) from fu_s, tuF_o (by omega), tuF_o (by omega), ← hon]; rfl) ?_
        have hH3 := hs_upL (S' := tuF S (k : Int)) hH2 hk8 (fun i a b c d => tuF_o (by omega))
        have ht3 := tgR_upH (a := A2 (-1) (60 + k)) (e := loC (tuF S (k : Int)) k) (tgR_rf (tg := tg1) (hid := h2 (-1)) (G := G15)) (by rw [hH2.2.1 _ (us_l hk8)]; omega) (nn_s hlo)
        have hC3 := ed_now hC2 ht3 hH3 rfl (by omega)
        have hlo3 := hH3.2.2.2.2.2.2.2 k (by rw [tuF_o (by omega)]; exact hk8)
        obtain ⟨mcl3, arl3, hmcl3, hLc3, hLa3, -⟩ := alR_P hH3.2.2.2.2.2.1
        obtain ⟨cap3, f3, hA3, hf3, hb3, hfi3⟩ := alP_get hLa3 (i := (k : Int)) (by omega) (by rw [tuF_o (by omega)]; exact hk8)
        have e8 : tuF S (k : Int) 8 = S 8 := tuF_o (by omega)
        have hon3 : tuF S (k : Int) (102 + 3 * (k : Int) + 2) = 1 - S (102 + 3 * (k : Int) + 2) := fu_s
        refine gw_aload_n (q := 72) hc dX0_turns_71 rfl rfl xg_0 ?_
        refine gw_get (q := 75) hc dX0_turns_72 rfl cE_ED 0 (by decide) q198 (fun _ h => h) hC3.1.1 rfl ?_
        refine gw_getN (q := 78) hc dX0_turns_75 rfl cE_HO 2 (by decide) q147 (fun _ h => h) hH3.2.2.1 rfl ?_
        refine gw_iload_n (q := 79) hc dX0_turns_78 rfl rfl xg_1 ?_
        refine gw_callF (q := 84) (bc' := 0) (bs' := 0) (As := [_]) hc dX0_turns_79 rfl cE_AL q586 mf_J2_get_7 rfl rfl (m_J2_get hLc3 hA3 (by omega) (by omega) hfi3) (rc_o hc cE_AL hLc3) ⟨Nat.le_of_ble_eq_true rfl, Nat.le_of_ble_eq_true rfl⟩ (Nat.le_of_ble_eq_true rfl) (Nat.le_of_ble_eq_true rfl) (Nat.le_of_ble_eq_true rfl) (goA fun r79 G79 h79 => ?_)
        obtain ⟨er79, hgg⟩ := h79
        have er79b : r79 = A2 (-1) (60 + k) := by rw [er79]; show A2 (-1) (60 + (k : Int).toNat) = _; rw [Int.toNat_natCast]
        rw [hgg, er79b]
        refine gw_cast (q := 87) hc dX0_turns_84 rfl q570 (rc_o hc cE_LO hlo3) ?_
        refine gw_getN (q := 90) hc dX0_turns_87 rfl cE_LO 2 (by decide) q513 (fun _ h => h) hlo3 rfl ?_
        refine gw_if_eq  (q := 93) (t := 97) hc dX0_turns_90 rfl (by decide) (by omega) (fun c90 => ?_) (fun c90 => ?_)
        · skip
          refine gw_iconst (q := 98) hc dX0_turns_97 rfl ?_
          exact gw_iret hc dX0_turns_98 ⟨_, rfl, Or.inr ⟨by unfold wnO; rw [if_pos (by omega)], by omega, tg1, frE_tr hf1 (frE_of ht3 (by omega)), pl, sv, pd, _, _, hC3⟩⟩
        · skip
          refine gw_iconst (q := 94) hc dX0_turns_93 rfl ?_
          refine gw_goto (q := 98) hc dX0_turns_94 (by decide) ?_
          exact gw_iret hc dX0_turns_98 ⟨_, rfl, Or.inr ⟨by unfold wnO; rw [if_pos (by omega)], by omega, tg1, frE_tr hf1 (frE_of ht3 (by omega)), pl, sv, pd, _, _, hC3⟩⟩
      · skip
        refine gw_iconst (q := 64) hc dX0_turns_63 rfl ?_
        refine gw_goto (q := 68) hc dX0_turns_64 (by decide) ?_
        refine gw_putN (q := 71) hc dX0_turns_68 rfl cE_LO 2 (by decide) q513 (fun _ h => h) rfl hlo (nz (by omega)) rfl (Nat.le_of_ble_eq_true rfl) ?_
        have hon : (1 : Int) = 1 - S (102 + 3 * (k : Int) + 2) := by omega
        refine gw_G (show _ = gup G15 (A2 (-1) (60 + k)) (loC (tuF S (k : Int)) k) from by unfold loC; rw [show tuF S (k : Int) (102 + 3 * (k : Int) + 2) = 1 - S (102 + 3 * (k : Int) + 2) from fu_s, tuF_o (by omega), tuF_o (by omega), ← hon]; rfl) ?_
        have hH3 := hs_upL (S' := tuF S (k : Int)) hH2 hk8 (fun i a b c d => tuF_o (by omega))
        have ht3 := tgR_upH (a := A2 (-1) (60 + k)) (e := loC (tuF S (k : Int)) k) (tgR_rf (tg := tg1) (hid := h2 (-1)) (G := G15)) (by rw [hH2.2.1 _ (us_l hk8)]; omega) (nn_s hlo)
        have hC3 := ed_now hC2 ht3 hH3 rfl (by omega)
        have hlo3 := hH3.2.2.2.2.2.2.2 k (by rw [tuF_o (by omega)]; exact hk8)
        obtain ⟨mcl3, arl3, hmcl3, hLc3, hLa3, -⟩ := alR_P hH3.2.2.2.2.2.1
        obtain ⟨cap3, f3, hA3, hf3, hb3, hfi3⟩ := alP_get hLa3 (i := (k : Int)) (by omega) (by rw [tuF_o (by omega)]; exact hk8)
        have e8 : tuF S (k : Int) 8 = S 8 := tuF_o (by omega)
        have hon3 : tuF S (k : Int) (102 + 3 * (k : Int) + 2) = 1 - S (102 + 3 * (k : Int) + 2) := fu_s
        refine gw_aload_n (q := 72) hc dX0_turns_71 rfl rfl xg_0 ?_
        refine gw_get (q := 75) hc dX0_turns_72 rfl cE_ED 0 (by decide) q198 (fun _ h => h) hC3.1.1 rfl ?_
        refine gw_getN (q := 78) hc dX0_turns_75 rfl cE_HO 2 (by decide) q147 (fun _ h => h) hH3.2.2.1 rfl ?_
        refine gw_iload_n (q := 79) hc dX0_turns_78 rfl rfl xg_1 ?_
        refine gw_callF (q := 84) (bc' := 0) (bs' := 0) (As := [_]) hc dX0_turns_79 rfl cE_AL q586 mf_J2_get_7 rfl rfl (m_J2_get hLc3 hA3 (by omega) (by omega) hfi3) (rc_o hc cE_AL hLc3) ⟨Nat.le_of_ble_eq_true rfl, Nat.le_of_ble_eq_true rfl⟩ (Nat.le_of_ble_eq_true rfl) (Nat.le_of_ble_eq_true rfl) (Nat.le_of_ble_eq_true rfl) (goA fun r79 G79 h79 => ?_)
        obtain ⟨er79, hgg⟩ := h79
        have er79b : r79 = A2 (-1) (60 + k) := by rw [er79]; show A2 (-1) (60 + (k : Int).toNat) = _; rw [Int.toNat_natCast]
        rw [hgg, er79b]
        refine gw_cast (q := 87) hc dX0_turns_84 rfl q570 (rc_o hc cE_LO hlo3) ?_
        refine gw_getN (q := 90) hc dX0_turns_87 rfl cE_LO 2 (by decide) q513 (fun _ h => h) hlo3 rfl ?_
        refine gw_if_eq  (q := 93) (t := 97) hc dX0_turns_90 rfl (by decide) (by omega) (fun c90 => ?_) (fun c90 => ?_)
        · skip
          refine gw_iconst (q := 98) hc dX0_turns_97 rfl ?_
          exact gw_iret hc dX0_turns_98 ⟨_, rfl, Or.inr ⟨by unfold wnO; rw [if_pos (by omega)], by omega, tg1, frE_tr hf1 (frE_of ht3 (by omega)), pl, sv, pd, _, _, hC3⟩⟩
        · skip
          refine gw_iconst (q := 94) hc dX0_turns_93 rfl ?_
          refine gw_goto (q := 98) hc dX0_turns_94 (by decide) ?_
          exact gw_iret hc dX0_turns_98 ⟨_, rfl, Or.inr ⟨by unfold wnO; rw [if_pos (by omega)], by omega, tg1, frE_tr hf1 (frE_of ht3 (by omega)), pl, sv, pd, _, _, hC3⟩⟩
    · have hgg : G15 = G := by rcases hcase with ⟨-, q⟩ | ⟨q, -⟩; (exact q); omega
      rw [hgg]
      refine gw_iload_n (q := 24) hc dX0_turns_23 rfl rfl xg_3 ?_
      exact gw_iret hc dX0_turns_24 ⟨_, rfl, Or.inl ⟨by unfold wnO; rw [if_neg (by omega)]; omega, by unfold wnO; first | (exfalso; omega) | rw [if_neg (by omega)], rfl⟩⟩
  · skip
    refine gw_iconst (q := 10) hc dX0_turns_9 rfl ?_
    refine gw_goto (q := 14) hc dX0_turns_10 (by decide) ?_
    refine gw_iload_n (q := 15) hc dX0_turns_14 rfl rfl xg_2 ?_
    refine gw_callV (q := 18) (bc' := 0) (bs' := 0) (As := [_, _]) hc dX0_turns_15 rfl q223 mw_X0_begun (rc_o hc cE_ED hC.1.1) rfl rfl (m_X0_begun_z hC hW hn (by omega)) ⟨Nat.le_of_ble_eq_true rfl, Nat.le_of_ble_eq_true rfl⟩ (Nat.le_of_ble_eq_true rfl) (Nat.le_of_ble_eq_true rfl) (Nat.le_of_ble_eq_true rfl) (goI fun r15 G15 h15 => ?_)
    obtain ⟨er15, hcase⟩ := h15
    rw [er15]
    refine gw_istore_n (q := 19) hc dX0_turns_18 rfl rfl xs_3 (by decide) (n2p xg_2 rfl) ?_
    refine gw_iload_n (q := 20) hc dX0_turns_19 rfl rfl xg_3 ?_
    refine gw_if_ge  (q := 23) (t := 25) hc dX0_turns_20 rfl (by decide) (by omega) (fun c20 => ?_) (fun c20 => ?_)
    · obtain ⟨hw0, tg1, hf1, h2, A2, hC2⟩ : (0 ≤ j ∧ j < S 8) ∧ ∃ tg1 : Nat → Nat, frE tg tg1 G G15 ∧ ∃ (h2 : Int → Nat) (A2 : Int → Nat → Nat), edC D X tg1 e nid pl sv pd h2 A2 S P kn L V Pd ln G15 := by rcases hcase with ⟨q, -⟩ | q; (exfalso; omega); exact ⟨by omega, q.2⟩
      obtain ⟨hlt2, W2, hH2⟩ := ed_H hC2
      obtain ⟨mcm2, arm2, hmcm2, hMc2, hMa2, -⟩ := alR_P hH2.2.2.2.2.1
      obtain ⟨mcl2, arl2, hmcl2, hLc2, hLa2, -⟩ := alR_P hH2.2.2.2.2.2.1
      obtain ⟨k, rfl⟩ : ∃ k : Nat, j = k := ⟨j.toNat, by omega⟩
      have hk8 : (k : Int) < S 8 := by omega
      have hlo := hH2.2.2.2.2.2.2.2 k hk8
      have hlw := (hW.1.2.1.2 (k : Int) (by omega) (by omega)).2.2
      obtain ⟨cap, f, hA1, hf1b, hb1, hfi⟩ := alP_get hLa2 (i := (k : Int)) (by omega) (by omega)
      refine gw_aload_n (q := 26) hc dX0_turns_25 rfl rfl xg_0 ?_
      refine gw_get (q := 29) hc dX0_turns_26 rfl cE_ED 0 (by decide) q198 (fun _ h => h) hC2.1.1 rfl ?_
      refine gw_getN (q := 32) hc dX0_turns_29 rfl cE_HO 2 (by decide) q147 (fun _ h => h) hH2.2.2.1 rfl ?_
      refine gw_iload_n (q := 33) hc dX0_turns_32 rfl rfl xg_1 ?_
      refine gw_callF (q := 38) (bc' := 0) (bs' := 0) (As := [_]) hc dX0_turns_33 rfl cE_AL q586 mf_J2_get_7 rfl rfl (m_J2_get hLc2 hA1 (by omega) (by omega) hfi) (rc_o hc cE_AL hLc2) ⟨Nat.le_of_ble_eq_true rfl, Nat.le_of_ble_eq_true rfl⟩ (Nat.le_of_ble_eq_true rfl) (Nat.le_of_ble_eq_true rfl) (Nat.le_of_ble_eq_true rfl) (goA fun r33 G33 h33 => ?_)
      obtain ⟨er33, hgg⟩ := h33
      have er33b : r33 = A2 (-1) (60 + k) := by rw [er33]; show A2 (-1) (60 + (k : Int).toNat) = _; rw [Int.toNat_natCast]
      rw [hgg, er33b]
      refine gw_cast (q := 41) hc dX0_turns_38 rfl q570 (rc_o hc cE_LO hlo) ?_
      refine gw_aload_n (q := 42) hc dX0_turns_41 rfl rfl xg_0 ?_
      refine gw_get (q := 45) hc dX0_turns_42 rfl cE_ED 0 (by decide) q198 (fun _ h => h) hC2.1.1 rfl ?_
      refine gw_getN (q := 48) hc dX0_turns_45 rfl cE_HO 2 (by decide) q147 (fun _ h => h) hH2.2.2.1 rfl ?_
      refine gw_iload_n (q := 49) hc dX0_turns_48 rfl rfl xg_1 ?_
      refine gw_callF (q := 54) (bc' := 0) (bs' := 0) (As := [_]) hc dX0_turns_49 rfl cE_AL q586 mf_J2_get_7 rfl rfl (m_J2_get hLc2 hA1 (by omega) (by omega) hfi) (rc_o hc cE_AL hLc2) ⟨Nat.le_of_ble_eq_true rfl, Nat.le_of_ble_eq_true rfl⟩ (Nat.le_of_ble_eq_true rfl) (Nat.le_of_ble_eq_true rfl) (Nat.le_of_ble_eq_true rfl) (goA fun r49 G49 h49 => ?_)
      obtain ⟨er49, hgg⟩ := h49
      have er49b : r49 = A2 (-1) (60 + k) := by rw [er49]; show A2 (-1) (60 + (k : Int).toNat) = _; rw [Int.toNat_natCast]
      rw [hgg, er49b]
      refine gw_cast (q := 57) hc dX0_turns_54 rfl q570 (rc_o hc cE_LO hlo) ?_
      refine gw_getN (q := 60) hc dX0_turns_57 rfl cE_LO 2 (by decide) q513 (fun _ h => h) hlo rfl ?_
      refine gw_if_ne  (q := 63) (t := 67) hc dX0_turns_60 rfl (by decide) (by omega) (fun c60 => ?_) (fun c60 => ?_)
      · skip
        refine gw_iconst (q := 68) hc dX0_turns_67 rfl ?_
        refine gw_putN (q := 71) hc dX0_turns_68 rfl cE_LO 2 (by decide) q513 (fun _ h => h) rfl hlo (nz (by omega)) rfl (Nat.le_of_ble_eq_true rfl) ?_
        have hon : (0 : Int) = 1 - S (102 + 3 * (k : Int) + 2) := by omega
        refine gw_G (show _ = gup G15 (A2 (-1) (60 + k)) (loC (tuF S (k : Int)) k) from by unfold loC; rw [show tuF S (k : Int) (102 + 3 * (k : Int) + 2) = 1 - S (102 + 3 * (k : Int) + 2) from fu_s, tuF_o (by omega), tuF_o (by omega), ← hon]; rfl) ?_
        have hH3 := hs_upL (S' := tuF S (k : Int)) hH2 hk8 (fun i a b c d => tuF_o (by omega))
        have ht3 := tgR_upH (a := A2 (-1) (60 + k)) (e := loC (tuF S (k : Int)) k) (tgR_rf (tg := tg1) (hid := h2 (-1)) (G := G15)) (by rw [hH2.2.1 _ (us_l hk8)]; omega) (nn_s hlo)
        have hC3 := ed_now hC2 ht3 hH3 rfl (by omega)
        have hlo3 := hH3.2.2.2.2.2.2.2 k (by rw [tuF_o (by omega)]; exact hk8)
        obtain ⟨mcl3, arl3, hmcl3, hLc3, hLa3, -⟩ := alR_P hH3.2.2.2.2.2.1
        obtain ⟨cap3, f3, hA3, hf3, hb3, hfi3⟩ := alP_get hLa3 (i := (k : Int)) (by omega) (by rw [tuF_o (by omega)]; exact hk8)
        have e8 : tuF S (k : Int) 8 = S 8 := tuF_o (by omega)
        have hon3 : tuF S (k : Int) (102 + 3 * (k : Int) + 2) = 1 - S (102 + 3 * (k : Int) + 2) := fu_s
        refine gw_aload_n (q := 72) hc dX0_turns_71 rfl rfl xg_0 ?_
        refine gw_get (q := 75) hc dX0_turns_72 rfl cE_ED 0 (by decide) q198 (fun _ h => h) hC3.1.1 rfl ?_
        refine gw_getN (q := 78) hc dX0_turns_75 rfl cE_HO 2 (by decide) q147 (fun _ h => h) hH3.2.2.1 rfl ?_
        refine gw_iload_n (q := 79) hc dX0_turns_78 rfl rfl xg_1 ?_
        refine gw_callF (q := 84) (bc' := 0) (bs' := 0) (As := [_]) hc dX0_turns_79 rfl cE_AL q586 mf_J2_get_7 rfl rfl (m_J2_get hLc3 hA3 (by omega) (by omega) hfi3) (rc_o hc cE_AL hLc3) ⟨Nat.le_of_ble_eq_true rfl, Nat.le_of_ble_eq_true rfl⟩ (Nat.le_of_ble_eq_true rfl) (Nat.le_of_ble_eq_true rfl) (Nat.le_of_ble_eq_true rfl) (goA fun r79 G79 h79 => ?_)
        obtain ⟨er79, hgg⟩ := h79
        have er79b : r79 = A2 (-1) (60 + k) := by rw [er79]; show A2 (-1) (60 + (k : Int).toNat) = _; rw [Int.toNat_natCast]
        rw [hgg, er79b]
        refine gw_cast (q := 87) hc dX0_turns_84 rfl q570 (rc_o hc cE_LO hlo3) ?_
        refine gw_getN (q := 90) hc dX0_turns_87 rfl cE_LO 2 (by decide) q513 (fun _ h => h) hlo3 rfl ?_
        refine gw_if_eq  (q := 93) (t := 97) hc dX0_turns_90 rfl (by decide) (by omega) (fun c90 => ?_) (fun c90 => ?_)
        · skip
          refine gw_iconst (q := 98) hc dX0_turns_97 rfl ?_
          exact gw_iret hc dX0_turns_98 ⟨_, rfl, Or.inr ⟨by unfold wnO; rw [if_pos (by omega)], by omega, tg1, frE_tr hf1 (frE_of ht3 (by omega)), pl, sv, pd, _, _, hC3⟩⟩
        · skip
          refine gw_iconst (q := 94) hc dX0_turns_93 rfl ?_
          refine gw_goto (q := 98) hc dX0_turns_94 (by decide) ?_
          exact gw_iret hc dX0_turns_98 ⟨_, rfl, Or.inr ⟨by unfold wnO; rw [if_pos (by omega)], by omega, tg1, frE_tr hf1 (frE_of ht3 (by omega)), pl, sv, pd, _, _, hC3⟩⟩
      · skip
        refine gw_iconst (q := 64) hc dX0_turns_63 rfl ?_
        refine gw_goto (q := 68) hc dX0_turns_64 (by decide) ?_
        refine gw_putN (q := 71) hc dX0_turns_68 rfl cE_LO 2 (by decide) q513 (fun _ h => h) rfl hlo (nz (by omega)) rfl (Nat.le_of_ble_eq_true rfl) ?_
        have hon : (1 : Int) = 1 - S (102 + 3 * (k : Int) + 2) := by omega
        refine gw_G (show _ = gup G15 (A2 (-1) (60 + k)) (loC (tuF S (k : Int)) k) from by unfold loC; rw [show tuF S (k : Int) (102 + 3 * (k : Int) + 2) = 1 - S (102 + 3 * (k : Int) + 2) from fu_s, tuF_o (by omega), tuF_o (by omega), ← hon]; rfl) ?_
        have hH3 := hs_upL (S' := tuF S (k : Int)) hH2 hk8 (fun i a b c d => tuF_o (by omega))
        have ht3 := tgR_upH (a := A2 (-1) (60 + k)) (e := loC (tuF S (k : Int)) k) (tgR_rf (tg := tg1) (hid := h2 (-1)) (G := G15)) (by rw [hH2.2.1 _ (us_l hk8)]; omega) (nn_s hlo)
        have hC3 := ed_now hC2 ht3 hH3 rfl (by omega)
        have hlo3 := hH3.2.2.2.2.2.2.2 k (by rw [tuF_o (by omega)]; exact hk8)
        obtain ⟨mcl3, arl3, hmcl3, hLc3, hLa3, -⟩ := alR_P hH3.2.2.2.2.2.1
        obtain ⟨cap3, f3, hA3, hf3, hb3, hfi3⟩ := alP_get hLa3 (i := (k : Int)) (by omega) (by rw [tuF_o (by omega)]; exact hk8)
        have e8 : tuF S (k : Int) 8 = S 8 := tuF_o (by omega)
        have hon3 : tuF S (k : Int) (102 + 3 * (k : Int) + 2) = 1 - S (102 + 3 * (k : Int) + 2) := fu_s
        refine gw_aload_n (q := 72) hc dX0_turns_71 rfl rfl xg_0 ?_
        refine gw_get (q := 75) hc dX0_turns_72 rfl cE_ED 0 (by decide) q198 (fun _ h => h) hC3.1.1 rfl ?_
        refine gw_getN (q := 78) hc dX0_turns_75 rfl cE_HO 2 (by decide) q147 (fun _ h => h) hH3.2.2.1 rfl ?_
        refine gw_iload_n (q := 79) hc dX0_turns_78 rfl rfl xg_1 ?_
        refine gw_callF (q := 84) (bc' := 0) (bs' := 0) (As := [_]) hc dX0_turns_79 rfl cE_AL q586 mf_J2_get_7 rfl rfl (m_J2_get hLc3 hA3 (by omega) (by omega) hfi3) (rc_o hc cE_AL hLc3) ⟨Nat.le_of_ble_eq_true rfl, Nat.le_of_ble_eq_true rfl⟩ (Nat.le_of_ble_eq_true rfl) (Nat.le_of_ble_eq_true rfl) (Nat.le_of_ble_eq_true rfl) (goA fun r79 G79 h79 => ?_)
        obtain ⟨er79, hgg⟩ := h79
        have er79b : r79 = A2 (-1) (60 + k) := by rw [er79]; show A2 (-1) (60 + (k : Int).toNat) = _; rw [Int.toNat_natCast]
        rw [hgg, er79b]
        refine gw_cast (q := 87) hc dX0_turns_84 rfl q570 (rc_o hc cE_LO hlo3) ?_
        refine gw_getN (q := 90) hc dX0_turns_87 rfl cE_LO 2 (by decide) q513 (fun _ h => h) hlo3 rfl ?_
        refine gw_if_eq  (q := 93) (t := 97) hc dX0_turns_90 rfl (by decide) (by omega) (fun c90 => ?_) (fun c90 => ?_)
        · skip
          refine gw_iconst (q := 98) hc dX0_turns_97 rfl ?_
          exact gw_iret hc dX0_turns_98 ⟨_, rfl, Or.inr ⟨by unfold wnO; rw [if_pos (by omega)], by omega, tg1, frE_tr hf1 (frE_of ht3 (by omega)), pl, sv, pd, _, _, hC3⟩⟩
        · skip
          refine gw_iconst (q := 94) hc dX0_turns_93 rfl ?_
          refine gw_goto (q := 98) hc dX0_turns_94 (by decide) ?_
          exact gw_iret hc dX0_turns_98 ⟨_, rfl, Or.inr ⟨by unfold wnO; rw [if_pos (by omega)], by omega, tg1, frE_tr hf1 (frE_of ht3 (by omega)), pl, sv, pd, _, _, hC3⟩⟩
    · have hgg : G15 = G := by rcases hcase with ⟨-, q⟩ | ⟨q, -⟩; (exact q); omega
      rw [hgg]
      refine gw_iload_n (q := 24) hc dX0_turns_23 rfl rfl xg_3 ?_
      exact gw_iret hc dX0_turns_24 ⟨_, rfl, Or.inl ⟨by unfold wnO; rw [if_neg (by omega)]; omega, by unfold wnO; first | (exfalso; omega) | rw [if_neg (by omega)], rfl⟩⟩

set_option maxHeartbeats 4000000 in
theorem m_X0_tampers_z {l : Launch} {D : va_G} {X : Nat → Nat} {b0 : Nat} {tg : Nat → Nat} {e nid pl sv pd : Nat} {h : Int → Nat} {A : Int → Nat → Nat} {S P L V Pd : Int → Int} {kn ln N : Int} {G : gM} (hC : edC D X tg e nid pl sv pd h A S P kn L V Pd ln G)  (hW : rowW S N) (hn : nid < 890) {m : Int} (hm : rI m) : gMet l D X b0 yX0_tampers cX0_tampers 4 (some FieldType.int) (rmE 5 0 0) [.ref e, .int (iI m), .int (iI 0)] G (edQ D X tg e nid (taF S m) P kn L V Pd ln G (wnT S m) (S (11 + 13 * m + 6))) := by
  refine gm_start (own := "EnergyDiscs") (lv := [some (.ref e), some (.int (iI m)), some (.int (iI 0)), none]) (by decide +kernel) rfl (Nat.le_of_ble_eq_true rfl) rfl (fun p_ e_ s_ m_ args_ below_ meth_ c_ hc hnm => ?_)
  obtain ⟨hlt, W, hH⟩ := ed_H hC
  obtain ⟨mcm, arm, hmcm, hMc, hMa, -⟩ := alR_P hH.2.2.2.2.1
  obtain ⟨mcl, arl, hmcl, hLc, hLa, -⟩ := alR_P hH.2.2.2.2.2.1
  have hb := hH.1
  have hwr : -5 ≤ wnT S m ∧ wnT S m ≤ 0 := by unfold wnT; (repeat' split) <;> omega
  refine gw_aload_n (q := 1) hc dX0_tampers_0 rfl rfl xg_0 ?_
  refine gw_aload_n (q := 2) hc dX0_tampers_1 rfl rfl xg_0 ?_
  refine gw_iload_n (q := 3) hc dX0_tampers_2 rfl rfl xg_1 ?_
  refine gw_callV (q := 6) (bc' := 0) (bs' := 0) (As := [_]) hc dX0_tampers_3 rfl q595 mw_X0_whyNotTamper (rc_o hc cE_ED hC.1.1) rfl rfl (m_X0_whyNotTamper hC hW hm) ⟨Nat.le_of_ble_eq_true rfl, Nat.le_of_ble_eq_true rfl⟩ (Nat.le_of_ble_eq_true rfl) (Nat.le_of_ble_eq_true rfl) (Nat.le_of_ble_eq_true rfl) (goI fun r3 G3 h3 => ?_)
  obtain ⟨er3, hgg⟩ := h3
  rw [hgg, er3]
  refine gw_iload_n (q := 7) hc dX0_tampers_6 rfl rfl xg_2 ?_
  refine gw_callV (q := 10) (bc' := 0) (bs' := 0) (As := [_, _]) hc dX0_tampers_7 rfl q223 mw_X0_begun (rc_o hc cE_ED hC.1.1) rfl rfl (m_X0_begun_z hC hW hn (by omega)) ⟨Nat.le_of_ble_eq_true rfl, Nat.le_of_ble_eq_true rfl⟩ (Nat.le_of_ble_eq_true rfl) (Nat.le_of_ble_eq_true rfl) (Nat.le_of_ble_eq_true rfl) (goI fun r7 G7 h7 => ?_)
  obtain ⟨er7, hcase⟩ := h7
  rw [er7]
  refine gw_istore_n (q := 11) hc dX0_tampers_10 rfl rfl xs_3 (by decide) (n2p xg_2 rfl) ?_
  refine gw_iload_n (q := 12) hc dX0_tampers_11 rfl rfl xg_3 ?_
  refine gw_if_ge  (q := 15) (t := 17) hc dX0_tampers_12 rfl (by decide) (by omega) (fun c12 => ?_) (fun c12 => ?_)
  · obtain ⟨hw0, tg1, hf1, h2, A2, hC2⟩ : wnT S m = 0 ∧ ∃ tg1 : Nat → Nat, frE tg tg1 G G7 ∧ ∃ (h2 : Int → Nat) (A2 : Int → Nat → Nat), edC D X tg1 e nid pl sv pd h2 A2 S P kn L V Pd ln G7 := by rcases hcase with ⟨q, -⟩ | q; (exfalso; omega); exact q
    obtain ⟨hlt2, W2, hH2⟩ := ed_H hC2
    obtain ⟨mcm2, arm2, hmcm2, hMc2, hMa2, -⟩ := alR_P hH2.2.2.2.2.1
    obtain ⟨mcl2, arl2, hmcl2, hLc2, hLa2, -⟩ := alR_P hH2.2.2.2.2.2.1
    have hmr : 0 ≤ m ∧ m < S 7 := by unfold wnT at hw0; (repeat' split at hw0) <;> omega
    obtain ⟨k, rfl⟩ : ∃ k : Nat, m = k := ⟨m.toNat, by omega⟩
    have hk7 : (k : Int) < S 7 := by omega
    have hmt2 := (hH2.2.2.2.2.2.2.1 k hk7).1
    refine gw_aload_n (q := 18) hc dX0_tampers_17 rfl rfl xg_0 ?_
    refine gw_iload_n (q := 19) hc dX0_tampers_18 rfl rfl xg_1 ?_
    refine gw_callV (q := 22) (bc' := 0) (bs' := 0) (As := [_]) hc dX0_tampers_19 rfl q599 mw_X0_meterAt (rc_o hc cE_ED hC2.1.1) rfl rfl (m_X0_meterAt hC2 (by omega)) ⟨Nat.le_of_ble_eq_true rfl, Nat.le_of_ble_eq_true rfl⟩ (Nat.le_of_ble_eq_true rfl) (Nat.le_of_ble_eq_true rfl) (Nat.le_of_ble_eq_true rfl) (goA fun r19 G19 h19 => ?_)
    obtain ⟨er19, hgg⟩ := h19
    rw [hgg, er19]
    refine gw_iconst (q := 23) hc dX0_tampers_22 rfl ?_
    refine gw_putN (q := 26) hc dX0_tampers_23 rfl cE_ME 15 (by decide) q450 (fun _ h => h) rfl hmt2 (nz (by omega)) rfl (Nat.le_of_ble_eq_true rfl) ?_
    refine gw_G (show _ = gup G7 (A2 (-1) (10 + k)) (mtC (A2 (-1)) (taF S (k : Int)) W2 k) from by rw [ta_cell]; rfl) ?_
    have hH3 := hs_upM (S' := taF S (k : Int)) (W' := W2) (m := k) hH2 hk7 (fun i _ _ _ h => taF_o (by omega)) (fun _ _ _ => rfl)
    have ht3 := tgR_upH (a := A2 (-1) (10 + k)) (e := mtC (A2 (-1)) (taF S (k : Int)) W2 k) (tgR_rf (tg := tg1) (hid := h2 (-1)) (G := G7)) (by rw [hH2.2.1 _ (us_m hk7)]; omega) (nn_s hmt2)
    have hC3 := ed_now hC2 ht3 hH3 rfl (by omega)
    have e7 : taF S (k : Int) 7 = S 7 := taF_o (by omega)
    have hmt3 := (hH3.2.2.2.2.2.2.1 k (by rw [e7]; exact hk7)).1
    have e6 : taF S (k : Int) (11 + 13 * (k : Int) + 6) = S (11 + 13 * (k : Int) + 6) := taF_o (by omega)
    refine gw_aload_n (q := 27) hc dX0_tampers_26 rfl rfl xg_0 ?_
    refine gw_iload_n (q := 28) hc dX0_tampers_27 rfl rfl xg_1 ?_
    refine gw_callV (q := 31) (bc' := 0) (bs' := 0) (As := [_]) hc dX0_tampers_28 rfl q599 mw_X0_meterAt (rc_o hc cE_ED hC3.1.1) rfl rfl (m_X0_meterAt hC3 (by omega)) ⟨Nat.le_of_ble_eq_true rfl, Nat.le_of_ble_eq_true rfl⟩ (Nat.le_of_ble_eq_true rfl) (Nat.le_of_ble_eq_true rfl) (Nat.le_of_ble_eq_true rfl) (goA fun r28 G28 h28 => ?_)
    obtain ⟨er28, hgg⟩ := h28
    rw [hgg, er28, fu_s]
    refine gw_getN (q := 34) hc dX0_tampers_31 rfl cE_ME 14 (by decide) q447 (fun _ h => h) hmt3 rfl ?_
    rw [e6]
    exact gw_iret hc dX0_tampers_34 ⟨_, rfl, Or.inr ⟨hw0, rfl, tg1, frE_tr hf1 (frE_of ht3 (by omega)), pl, sv, pd, _, _, hC3⟩⟩
  · have hgg : G7 = G := by rcases hcase with ⟨-, q⟩ | ⟨q, -⟩; (exact q); omega
    rw [hgg]
    refine gw_iload_n (q := 16) hc dX0_tampers_15 rfl rfl xg_3 ?_
    exact gw_iret hc dX0_tampers_16 ⟨_, rfl, Or.inl ⟨by omega, rfl, rfl⟩⟩

set_option maxHeartbeats 4000000 in
theorem m_X0_visits_z {l : Launch} {D : va_G} {X : Nat → Nat} {b0 : Nat} {tg : Nat → Nat} {e nid pl sv pd : Nat} {h : Int → Nat} {A : Int → Nat → Nat} {S P L V Pd : Int → Int} {kn ln N : Int} {G : gM} (hC : edC D X tg e nid pl sv pd h A S P kn L V Pd ln G)  (hW : rowW S N) (hn : nid < 890) {m : Int} (hm : rI m) : gMet l D X b0 yX0_visits cX0_visits 4 (some FieldType.int) (rmE 4 0 0) [.ref e, .int (iI m), .int (iI 0)] G (edQ D X tg e nid (viF S m) P kn L V Pd ln G (wnI S m) (biF S m)) := by
  refine gm_start (own := "EnergyDiscs") (lv := [some (.ref e), some (.int (iI m)), some (.int (iI 0)), none]) (by decide +kernel) rfl (Nat.le_of_ble_eq_true rfl) rfl (fun p_ e_ s_ m_ args_ below_ meth_ c_ hc hnm => ?_)
  obtain ⟨hlt, W, hH⟩ := ed_H hC
  obtain ⟨mcm, arm, hmcm, hMc, hMa, -⟩ := alR_P hH.2.2.2.2.1
  obtain ⟨mcl, arl, hmcl, hLc, hLa, -⟩ := alR_P hH.2.2.2.2.2.1
  have hb := hH.1
  refine gw_aload_n (q := 1) hc dX0_visits_0 rfl rfl xg_0 ?_
  refine gw_aload_n (q := 2) hc dX0_visits_1 rfl rfl xg_0 ?_
  refine gw_iload_n (q := 3) hc dX0_visits_2 rfl rfl xg_1 ?_
  refine gw_callV (q := 6) (bc' := 0) (bs' := 0) (As := [_]) hc dX0_visits_3 rfl q548 mw_X0_isMeter (rc_o hc cE_ED hC.1.1) rfl rfl (m_X0_isMeter hC hm) ⟨Nat.le_of_ble_eq_true rfl, Nat.le_of_ble_eq_true rfl⟩ (Nat.le_of_ble_eq_true rfl) (Nat.le_of_ble_eq_true rfl) (Nat.le_of_ble_eq_true rfl) (goI fun r3 G3 h3 => ?_)
  obtain ⟨b3, hgg⟩ := h3
  rw [hgg]
  refine gw_if_eq  (q := 9) (t := 13) hc dX0_visits_6 rfl (by decide) (by omega) (fun c6 => ?_) (fun c6 => ?_)
  · skip
    refine gw_iconst (q := 14) hc dX0_visits_13 rfl ?_
    refine gw_iload_n (q := 15) hc dX0_visits_14 rfl rfl xg_2 ?_
    refine gw_callV (q := 18) (bc' := 0) (bs' := 0) (As := [_, _]) hc dX0_visits_15 rfl q223 mw_X0_begun (rc_o hc cE_ED hC.1.1) rfl rfl (m_X0_begun_z hC hW hn (by omega)) ⟨Nat.le_of_ble_eq_true rfl, Nat.le_of_ble_eq_true rfl⟩ (Nat.le_of_ble_eq_true rfl) (Nat.le_of_ble_eq_true rfl) (Nat.le_of_ble_eq_true rfl) (goI fun r15 G15 h15 => ?_)
    obtain ⟨er15, hcase⟩ := h15
    rw [er15]
    refine gw_istore_n (q := 19) hc dX0_visits_18 rfl rfl xs_3 (by decide) (n2p xg_2 rfl) ?_
    refine gw_iload_n (q := 20) hc dX0_visits_19 rfl rfl xg_3 ?_
    refine gw_if_ge  (q := 23) (t := 27) hc dX0_visits_20 rfl (by decide) (by omega) (fun c20 => ?_) (fun c20 => ?_)
    · obtain ⟨hw0, tg1, hf1, h2, A2, hC2⟩ : (0 ≤ m ∧ m < S 7) ∧ ∃ tg1 : Nat → Nat, frE tg tg1 G G15 ∧ ∃ (h2 : Int → Nat) (A2 : Int → Nat → Nat), edC D X tg1 e nid pl sv pd h2 A2 S P kn L V Pd ln G15 := by rcases hcase with ⟨q, -⟩ | q; (exfalso; omega); exact ⟨by omega, q.2⟩
      obtain ⟨hlt2, W2, hH2⟩ := ed_H hC2
      obtain ⟨mcm2, arm2, hmcm2, hMc2, hMa2, -⟩ := alR_P hH2.2.2.2.2.1
      obtain ⟨mcl2, arl2, hmcl2, hLc2, hLa2, -⟩ := alR_P hH2.2.2.2.2.2.1
      obtain ⟨k, rfl⟩ : ∃ k : Nat, m = k := ⟨m.toNat, by omega⟩
      have hk7 : (k : Int) < S 7 := by omega
      have hmt2 := (hH2.2.2.2.2.2.2.1 k hk7).1
      refine gw_aload_n (q := 28) hc dX0_visits_27 rfl rfl xg_0 ?_
      refine gw_get (q := 31) hc dX0_visits_28 rfl cE_ED 0 (by decide) q198 (fun _ h => h) hC2.1.1 rfl ?_
      refine gw_aload_n (q := 32) hc dX0_visits_31 rfl rfl xg_0 ?_
      refine gw_iload_n (q := 33) hc dX0_visits_32 rfl rfl xg_1 ?_
      refine gw_callV (q := 36) (bc' := 0) (bs' := 0) (As := [_]) hc dX0_visits_33 rfl q599 mw_X0_meterAt (rc_o hc cE_ED hC2.1.1) rfl rfl (m_X0_meterAt hC2 (by omega)) ⟨Nat.le_of_ble_eq_true rfl, Nat.le_of_ble_eq_true rfl⟩ (Nat.le_of_ble_eq_true rfl) (Nat.le_of_ble_eq_true rfl) (Nat.le_of_ble_eq_true rfl) (goA fun r33 G33 h33 => ?_)
      obtain ⟨er33, hgg⟩ := h33
      rw [hgg, er33]
      refine gw_callV (q := 39) (bc' := 0) (bs' := 0) (As := [_]) hc dX0_visits_36 rfl q612 mw_X1_visit (rc_o hc cE_HO hH2.2.2.1) rfl rfl (m_X1_visit hH2 hW hk7) ⟨Nat.le_of_ble_eq_true rfl, Nat.le_of_ble_eq_true rfl⟩ (Nat.le_of_ble_eq_true rfl) (Nat.le_of_ble_eq_true rfl) (Nat.le_of_ble_eq_true rfl) (goI fun r36 G36 h36 => ?_)
      obtain ⟨er36, hH3, hfr3⟩ := h36
      rw [er36]
      exact gw_iret hc dX0_visits_39 ⟨_, rfl, Or.inr ⟨by unfold wnI; rw [if_pos (by omega)], rfl, tg1, frE_tr hf1 (frE_w (tgW_H hfr3) (by omega)), pl, sv, pd, _, _, ed_nowW hC2 (tgW_H hfr3) hH3 rfl (by omega)⟩⟩
    · have hgg : G15 = G := by rcases hcase with ⟨-, q⟩ | ⟨q, -⟩; (exact q); omega
      rw [hgg]
      refine gw_iload_n (q := 24) hc dX0_visits_23 rfl rfl xg_3 ?_
      refine gw_goto (q := 39) hc dX0_visits_24 (by decide) ?_
      exact gw_iret hc dX0_visits_39 ⟨_, rfl, Or.inl ⟨by unfold wnI; rw [if_neg (by omega)]; omega, by unfold wnI; first | (exfalso; omega) | rw [if_neg (by omega)], rfl⟩⟩
  · skip
    refine gw_iconst (q := 10) hc dX0_visits_9 rfl ?_
    refine gw_goto (q := 14) hc dX0_visits_10 (by decide) ?_
    refine gw_iload_n (q := 15) hc dX0_visits_14 rfl rfl xg_2 ?_
    refine gw_callV (q := 18) (bc' := 0) (bs' := 0) (As := [_, _]) hc dX0_visits_15 rfl q223 mw_X0_begun (rc_o hc cE_ED hC.1.1) rfl rfl (m_X0_begun_z hC hW hn (by omega)) ⟨Nat.le_of_ble_eq_true rfl, Nat.le_of_ble_eq_true rfl⟩ (Nat.le_of_ble_eq_true rfl) (Nat.le_of_ble_eq_true rfl) (Nat.le_of_ble_eq_true rfl) (goI fun r15 G15 h15 => ?_)
    obtain ⟨er15, hcase⟩ := h15
    rw [er15]
    refine gw_istore_n (q := 19) hc dX0_visits_18 rfl rfl xs_3 (by decide) (n2p xg_2 rfl) ?_
    refine gw_iload_n (q := 20) hc dX0_visits_19 rfl rfl xg_3 ?_
    refine gw_if_ge  (q := 23) (t := 27) hc dX0_visits_20 rfl (by decide) (by omega) (fun c20 => ?_) (fun c20 => ?_)
    · obtain ⟨hw0, tg1, hf1, h2, A2, hC2⟩ : (0 ≤ m ∧ m < S 7) ∧ ∃ tg1 : Nat → Nat, frE tg tg1 G G15 ∧ ∃ (h2 : Int → Nat) (A2 : Int → Nat → Nat), edC D X tg1 e nid pl sv pd h2 A2 S P kn L V Pd ln G15 := by rcases hcase with ⟨q, -⟩ | q; (exfalso; omega); exact ⟨by omega, q.2⟩
      obtain ⟨hlt2, W2, hH2⟩ := ed_H hC2
      obtain ⟨mcm2, arm2, hmcm2, hMc2, hMa2, -⟩ := alR_P hH2.2.2.2.2.1
      obtain ⟨mcl2, arl2, hmcl2, hLc2, hLa2, -⟩ := alR_P hH2.2.2.2.2.2.1
      obtain ⟨k, rfl⟩ : ∃ k : Nat, m = k := ⟨m.toNat, by omega⟩
      have hk7 : (k : Int) < S 7 := by omega
      have hmt2 := (hH2.2.2.2.2.2.2.1 k hk7).1
      refine gw_aload_n (q := 28) hc dX0_visits_27 rfl rfl xg_0 ?_
      refine gw_get (q := 31) hc dX0_visits_28 rfl cE_ED 0 (by decide) q198 (fun _ h => h) hC2.1.1 rfl ?_
      refine gw_aload_n (q := 32) hc dX0_visits_31 rfl rfl xg_0 ?_
      refine gw_iload_n (q := 33) hc dX0_visits_32 rfl rfl xg_1 ?_
      refine gw_callV (q := 36) (bc' := 0) (bs' := 0) (As := [_]) hc dX0_visits_33 rfl q599 mw_X0_meterAt (rc_o hc cE_ED hC2.1.1) rfl rfl (m_X0_meterAt hC2 (by omega)) ⟨Nat.le_of_ble_eq_true rfl, Nat.le_of_ble_eq_true rfl⟩ (Nat.le_of_ble_eq_true rfl) (Nat.le_of_ble_eq_true rfl) (Nat.le_of_ble_eq_true rfl) (goA fun r33 G33 h33 => ?_)
      obtain ⟨er33, hgg⟩ := h33
      rw [hgg, er33]
      refine gw_callV (q := 39) (bc' := 0) (bs' := 0) (As := [_]) hc dX0_visits_36 rfl q612 mw_X1_visit (rc_o hc cE_HO hH2.2.2.1) rfl rfl (m_X1_visit hH2 hW hk7) ⟨Nat.le_of_ble_eq_true rfl, Nat.le_of_ble_eq_true rfl⟩ (Nat.le_of_ble_eq_true rfl) (Nat.le_of_ble_eq_true rfl) (Nat.le_of_ble_eq_true rfl) (goI fun r36 G36 h36 => ?_)
      obtain ⟨er36, hH3, hfr3⟩ := h36
      rw [er36]
      exact gw_iret hc dX0_visits_39 ⟨_, rfl, Or.inr ⟨by unfold wnI; rw [if_pos (by omega)], rfl, tg1, frE_tr hf1 (frE_w (tgW_H hfr3) (by omega)), pl, sv, pd, _, _, ed_nowW hC2 (tgW_H hfr3) hH3 rfl (by omega)⟩⟩
    · have hgg : G15 = G := by rcases hcase with ⟨-, q⟩ | ⟨q, -⟩; (exact q); omega
      rw [hgg]
      refine gw_iload_n (q := 24) hc dX0_visits_23 rfl rfl xg_3 ?_
      refine gw_goto (q := 39) hc dX0_visits_24 (by decide) ?_
      exact gw_iret hc dX0_visits_39 ⟨_, rfl, Or.inl ⟨by unfold wnI; rw [if_neg (by omega)]; omega, by unfold wnI; first | (exfalso; omega) | rw [if_neg (by omega)], rfl⟩⟩

set_option maxHeartbeats 4000000 in
theorem m_X0_passes_z {l : Launch} {D : va_G} {X : Nat → Nat} {b0 : Nat} {tg : Nat → Nat} {e nid pl sv pd : Nat} {h : Int → Nat} {A : Int → Nat → Nat} {S P L V Pd : Int → Int} {kn ln N : Int} {G : gM} (hC : edC D X tg e nid pl sv pd h A S P kn L V Pd ln G)  (hW : rowW S N) (hn : nid < 890) {t : Int} (ht : rI t) : gMet l D X b0 yX0_passes cX0_passes 4 (some FieldType.int) (rmE 13 0 0) [.ref e, .int (iI t), .int (iI 0)] G (edQ D X tg e nid (paF S t.toNat) P kn L V Pd ln G (wnP S t) (paT S t.toNat)) := by
  refine gm_start (own := "EnergyDiscs") (lv := [some (.ref e), some (.int (iI t)), some (.int (iI 0)), none]) (by decide +kernel) rfl (Nat.le_of_ble_eq_true rfl) rfl (fun p_ e_ s_ m_ args_ below_ meth_ c_ hc hnm => ?_)
  obtain ⟨hlt, W, hH⟩ := ed_H hC
  obtain ⟨mcm, arm, hmcm, hMc, hMa, -⟩ := alR_P hH.2.2.2.2.1
  obtain ⟨mcl, arl, hmcl, hLc, hLa, -⟩ := alR_P hH.2.2.2.2.2.1
  have hb := hH.1
  have hwr : -5 ≤ wnP S t ∧ wnP S t ≤ 0 := by unfold wnP; (repeat' split) <;> omega
  refine gw_aload_n (q := 1) hc dX0_passes_0 rfl rfl xg_0 ?_
  refine gw_aload_n (q := 2) hc dX0_passes_1 rfl rfl xg_0 ?_
  refine gw_iload_n (q := 3) hc dX0_passes_2 rfl rfl xg_1 ?_
  refine gw_callV (q := 6) (bc' := 0) (bs' := 0) (As := [_]) hc dX0_passes_3 rfl q632 mw_X0_whyNotPass (rc_o hc cE_ED hC.1.1) rfl rfl (m_X0_whyNotPass hC hW ht) ⟨Nat.le_of_ble_eq_true rfl, Nat.le_of_ble_eq_true rfl⟩ (Nat.le_of_ble_eq_true rfl) (Nat.le_of_ble_eq_true rfl) (Nat.le_of_ble_eq_true rfl) (goI fun r3 G3 h3 => ?_)
  obtain ⟨er3, hgg⟩ := h3
  rw [hgg, er3]
  refine gw_iload_n (q := 7) hc dX0_passes_6 rfl rfl xg_2 ?_
  refine gw_callV (q := 10) (bc' := 0) (bs' := 0) (As := [_, _]) hc dX0_passes_7 rfl q223 mw_X0_begun (rc_o hc cE_ED hC.1.1) rfl rfl (m_X0_begun_z hC hW hn (by omega)) ⟨Nat.le_of_ble_eq_true rfl, Nat.le_of_ble_eq_true rfl⟩ (Nat.le_of_ble_eq_true rfl) (Nat.le_of_ble_eq_true rfl) (Nat.le_of_ble_eq_true rfl) (goI fun r7 G7 h7 => ?_)
  obtain ⟨er7, hcase⟩ := h7
  rw [er7]
  refine gw_istore_n (q := 11) hc dX0_passes_10 rfl rfl xs_3 (by decide) (n2p xg_2 rfl) ?_
  refine gw_iload_n (q := 12) hc dX0_passes_11 rfl rfl xg_3 ?_
  refine gw_if_ge  (q := 15) (t := 19) hc dX0_passes_12 rfl (by decide) (by omega) (fun c12 => ?_) (fun c12 => ?_)
  · obtain ⟨hw0, tg1, hf1, h2, A2, hC2⟩ : wnP S t = 0 ∧ ∃ tg1 : Nat → Nat, frE tg tg1 G G7 ∧ ∃ (h2 : Int → Nat) (A2 : Int → Nat → Nat), edC D X tg1 e nid pl sv pd h2 A2 S P kn L V Pd ln G7 := by rcases hcase with ⟨q, -⟩ | q; (exfalso; omega); exact q
    obtain ⟨hlt2, W2, hH2⟩ := ed_H hC2
    obtain ⟨mcm2, arm2, hmcm2, hMc2, hMa2, -⟩ := alR_P hH2.2.2.2.2.1
    obtain ⟨mcl2, arl2, hmcl2, hLc2, hLa2, -⟩ := alR_P hH2.2.2.2.2.2.1
    have htr : 1 ≤ t ∧ t ≤ 1440 := by unfold wnP at hw0; (repeat' split at hw0) <;> omega
    refine gw_aload_n (q := 20) hc dX0_passes_19 rfl rfl xg_0 ?_
    refine gw_get (q := 23) hc dX0_passes_20 rfl cE_ED 0 (by decide) q198 (fun _ h => h) hC2.1.1 rfl ?_
    refine gw_iload_n (q := 24) hc dX0_passes_23 rfl rfl xg_1 ?_
    refine gw_callV (q := 27) (bc' := 0) (bs' := 0) (As := [_]) hc dX0_passes_24 rfl q637 mw_X1_pass (rc_o hc cE_HO hH2.2.2.1) rfl rfl (m_X1_pass hH2 hW (by omega)) ⟨Nat.le_of_ble_eq_true rfl, Nat.le_of_ble_eq_true rfl⟩ (Nat.le_of_ble_eq_true rfl) (Nat.le_of_ble_eq_true rfl) (Nat.le_of_ble_eq_true rfl) (goI fun r24 G24 h24 => ?_)
    obtain ⟨er24, W3, hH3, -, hfr3⟩ := h24
    rw [er24]
    exact gw_iret hc dX0_passes_27 ⟨_, rfl, Or.inr ⟨hw0, rfl, tg1, frE_tr hf1 (frE_w (tgW_H hfr3) (by omega)), pl, sv, pd, _, _, ed_nowW hC2 (tgW_H hfr3) hH3 rfl (by omega)⟩⟩
  · have hgg : G7 = G := by rcases hcase with ⟨-, q⟩ | ⟨q, -⟩; (exact q); omega
    rw [hgg]
    refine gw_iload_n (q := 16) hc dX0_passes_15 rfl rfl xg_3 ?_
    refine gw_goto (q := 27) hc dX0_passes_16 (by decide) ?_
    exact gw_iret hc dX0_passes_27 ⟨_, rfl, Or.inl ⟨by omega, rfl, rfl⟩⟩

theorem mw_X5_init : mI yX5_init cX5_init 2 1 := ⟨⟨rfl, by decide +kernel, by decide +kernel, by decide +kernel⟩, q1008, q95, q1009⟩
set_option maxHeartbeats 4000000 in
theorem m_X0_fault {l : Launch} {D : va_G} {X : Nat → Nat} {b0 : Nat} {tg : Nat → Nat} {e nid pl sv pd : Nat} {h : Int → Nat} {A : Int → Nat → Nat} {S P L V Pd : Int → Int} {kn ln : Int} {G : gM} (hC : edC D X tg e nid pl sv pd h A S P kn L V Pd ln G) (hn : nid < 890) (hpw : padW Pd ln) : gMet l D X b0 yX0_fault cX0_fault 2 (some FieldType.int) (rmE 13 86 2821) [.ref e] G (pI fun r G' => r = faF Pd ln 80 0 ∧ ∃ tg' : Nat → Nat, frT tg tg' G G' ∧ edR D X tg' e nid S P kn L V Pd ln G') := by
  refine gm_start (own := "EnergyDiscs") (lv := [some (.ref e), none]) (by decide +kernel) rfl (Nat.le_of_ble_eq_true rfl) rfl (fun p_ e_ s_ m_ args_ below_ meth_ c_ hc hnm => ?_)
  obtain ⟨hlt, W, hH⟩ := ed_H hC
  obtain ⟨mcm, arm, hmcm, hMc, hMa, -⟩ := alR_P hH.2.2.2.2.1
  obtain ⟨mcl, arl, hmcl, hLc, hLa, -⟩ := alR_P hH.2.2.2.2.2.1
  have hb := hH.1
  refine gw_new (q := 3) (fs := [.null, .int (iI 0), .int (iI 0), .null]) hc dX0_fault_0 rfl cE_RE q1005 q1006 q95 (fun j hj => by rcases (by omega : j = 0 ∨ j = 1 ∨ j = 2 ∨ j = 3) with rfl | rfl | rfl | rfl <;> rfl) (bc' := 85) (bs' := 2817) (Nat.le_of_ble_eq_true rfl) (Nat.le_of_ble_eq_true rfl) (fun x hnx hbx => ?_)
  have htx := tgR_new (tg := tg) (hid := 992) (t := 99200) (e := oE 5 [.null, .int (iI 0), .int (iI 0), .null]) hnx (Or.inl (by omega))
  obtain ⟨tg1, etg1⟩ : ∃ tg1 : Nat → Nat, tg1 = fun q => if q = x then 99200 else tg q := ⟨_, rfl⟩
  rw [← etg1] at htx
  have hC1 := ed_oth hC htx (by omega) (by omega)
  have hx1 : tg1 x = 99200 := by rw [etg1]; exact if_pos rfl
  refine gw_dup (q := 4) hc dX0_fault_3 rfl rfl ?_
  refine gw_aload_n (q := 5) hc dX0_fault_4 rfl rfl xg_0 ?_
  refine gw_callI (q := 8) (bc' := 0) (bs' := 0) (As := [_]) hc dX0_fault_5 rfl q1007 mw_X5_init rfl rfl (m_X5_init gup_s hx1 hC1.1.1 (by have := hC1.1.2.1; omega) hC1.2.2.2.2.2.2 hpw) ⟨Nat.le_of_ble_eq_true rfl, Nat.le_of_ble_eq_true rfl⟩ (Nat.le_of_ble_eq_true rfl) (Nat.le_of_ble_eq_true rfl) (Nat.le_of_ble_eq_true rfl) (goV fun G5 h5 => ?_)
  obtain ⟨tg2, m2, sp2, wr2, n2, qs2, ht2, hRd2, hQ2, hend2, hqs2⟩ := h5
  have hC2 := ed_oth hC1 ht2 (by omega) (by omega)
  obtain ⟨ol2, el2, hR2, ⟨htr2, hto2⟩, hal2, hel2⟩ := id hRd2
  have hspb := rdQ_b hpw hQ2
  refine gw_astore_n (q := 9) hc dX0_fault_8 rfl rfl xs_1 (by decide) (n2p xg_0 rfl) ?_
  refine gw_aload_n (q := 10) hc dX0_fault_9 rfl rfl xg_1 ?_
  refine gw_getN (q := 13) hc dX0_fault_10 rfl cE_RE 2 (by decide) q1203 (fun _ h => h) hR2 rfl ?_
  refine gw_if_eq  (q := 16) (t := 23) hc dX0_fault_13 rfl (by decide) (by omega) (fun c13 => ?_) (fun c13 => ?_)
  · skip
    refine gw_bipush (q := 25) hc dX0_fault_23 rfl (by decide) ?_
    exact gw_iret hc dX0_fault_25 ⟨_, rfl, ⟨(rdQ_end (n := n2) hpw (by rw [← show wr2 = 0 by omega]; exact hQ2) (by omega)).symm, tg2, frT_tr (frT_of htx (by omega)) (frT_of ht2 (by omega)), pl, sv, pd, h, A, hC2⟩⟩
  · skip
    refine gw_aload_n (q := 17) hc dX0_fault_16 rfl rfl xg_1 ?_
    refine gw_getN (q := 20) hc dX0_fault_17 rfl cE_RE 1 (by decide) q1201 (fun _ h => h) hR2 rfl ?_
    refine gw_goto (q := 25) hc dX0_fault_20 (by decide) ?_
    exact gw_iret hc dX0_fault_25 ⟨_, rfl, ⟨by rcases hQ2 with ⟨-, q, -⟩ | ⟨q, -⟩; (exact q.symm); omega, tg2, frT_tr (frT_of htx (by omega)) (frT_of ht2 (by omega)), pl, sv, pd, h, A, hC2⟩⟩

section GWLW
variable {p : Program} {l : Launch} {e : Env} {R : Room} {s : State} {m : MethodId} {args : Array Value} {below : List Frame} {meth : Method} {c : Code} {Q : State → Prop}
variable {D : va_G} {X : Nat → Nat} {b0 nL bc bs pc q : Nat} {own : String} {cc : ByteArray} {ret : Option FieldType} {G : gM} {lv lv' lv1 : List (Option Value)} {st : List Value}
theorem gw_ldcwS (hc : cx p s m args meth c D X b0 own cc nL ret) {index k : Nat} (d : decode cc pc = .ok (.ldc_w index, 3)) (hq : pc + 3 = q) (hld : (own, index, k) ∈ ldE) (kk : GW p l e R s m args below meth c D b0 nL Q G bc bs q lv (.ref (X (10 + k)) :: st)) : GW p l e R s m args below meth c D b0 nL Q G bc bs pc lv st := by
  subst hq
  intro H locs ls cells slots h1 h2 hg hl
  intro T hT XX
  obtain ⟨t, a1, b1⟩ := kk H locs ls cells slots h1 h2 hg hl T hT XX
  have hZ := hc.2.2.2.2.2.2.2.2.2.2.1.2.2 _ hld
  exact ⟨t, XX.ldcStringW hc.1 hc.2.2.2.1 hZ.1 hZ.2 (g := F0 m pc ls st) rfl (by rw [hc.2.1]; exact d) t a1, b1⟩
end GWLW
theorem wn_r0 {S : Int → Int} {t : Int} : rI (wnM S t) := by unfold wnM; (repeat' split) <;> (constructor <;> omega)
theorem wn_r1 {S : Int → Int} {m w : Int} : rI (wnL S m w) := by unfold wnL; (repeat' split) <;> (constructor <;> omega)
theorem wn_r2 {S : Int → Int} {m : Int} : rI (wnO S m) := by unfold wnO; (repeat' split) <;> (constructor <;> omega)
theorem wn_r3 {S : Int → Int} {m : Int} : rI (wnP S m) := by unfold wnP; (repeat' split) <;> (constructor <;> omega)
theorem wn_r4 {S : Int → Int} {m : Int} : rI (wnT S m) := by unfold wnT; (repeat' split) <;> (constructor <;> omega)
theorem wn_r5 {S : Int → Int} {m : Int} : rI (wnI S m) := by unfold wnI; (repeat' split) <;> (constructor <;> omega)
set_option maxHeartbeats 4000000 in
theorem m_X0_doIt {l : Launch} {D : va_G} {X : Nat → Nat} {b0 : Nat} {tg : Nat → Nat} {e nid pl sv pd : Nat} {h : Int → Nat} {A : Int → Nat → Nat} {S P L V Pd : Int → Int} {kn ln N : Int} {G : gM} (hC : edC D X tg e nid pl sv pd h A S P kn L V Pd ln G) (hW : rowW S N) (hN : N ≤ 1000000) (hn : nid < 890) {ro k : Nat} {f s : Int} (hO : G ro = some (orO X k f s)) (hk6 : k < 6) (hf : 0 ≤ f ∧ f ≤ 9999) (hs : 0 ≤ s ∧ s ≤ 9999) : gMet l D X b0 yX0_doIt cX0_doIt 4 (some FieldType.int) (rmE 14 5 151) [.ref e, .ref ro] G (pI fun r G' => (wyK S k f s < 0 ∧ r < 0 ∧ rI r ∧ G' = G) ∨ (wyK S k f s = 0 ∧ 0 ≤ r ∧ rI r ∧ ∃ tg' : Nat → Nat, frE tg tg' G G' ∧ edR D X tg' e nid (dsK S k f s) P kn L V Pd ln G')) := by
  refine gm_start (own := "EnergyDiscs") (lv := [some (.ref e), some (.ref ro), none, none]) (by decide +kernel) rfl (Nat.le_of_ble_eq_true rfl) rfl (fun p_ e_ s_ m_ args_ below_ meth_ c_ hc hnm => ?_)
  obtain ⟨hlt, W, hH⟩ := ed_H hC
  obtain ⟨mcm, arm, hmcm, hMc, hMa, -⟩ := alR_P hH.2.2.2.2.1
  obtain ⟨mcl, arl, hmcl, hLc, hLa, -⟩ := alR_P hH.2.2.2.2.2.1
  have hb := hH.1
  refine gw_aload_n (q := 1) hc dX0_doIt_0 rfl rfl xg_1 ?_
  refine gw_getN (q := 4) hc dX0_doIt_1 rfl cE_OR 0 (by decide) q1171 (fun _ h => h) hO rfl ?_
  refine gw_astore_n (q := 5) hc dX0_doIt_4 rfl rfl xs_2 (by decide) (n2p xg_1 rfl) ?_
  refine gw_iconst (q := 6) hc dX0_doIt_5 rfl ?_
  refine gw_istore_n (q := 7) hc dX0_doIt_6 rfl rfl xs_3 (by decide) (n2p xg_2 rfl) ?_
  refine gw_aload_n (q := 8) hc dX0_doIt_7 rfl rfl xg_2 ?_
  refine gw_callV (q := 11) (bc' := 5) (bs' := 151) (As := []) hc dX0_doIt_8 rfl q1222 mw_J5_hashCode (rc_s hc (by omega)) rfl rfl (m_J5_hashCode hk6) ⟨Nat.le_of_ble_eq_true rfl, Nat.le_of_ble_eq_true rfl⟩ (Nat.le_of_ble_eq_true rfl) (Nat.le_of_ble_eq_true rfl) (Nat.le_of_ble_eq_true rfl) (goI fun r8 G8 h8 => ?_)
  obtain ⟨er8, hgg⟩ := h8
  rw [hgg, er8]
  rcases (by omega : k = 0 ∨ k = 1 ∨ k = 2 ∨ k = 3 ∨ k = 4 ∨ k = 5) with rfl | rfl | rfl | rfl | rfl | rfl
  · skip
    refine gw_lookup (t := 60) hc dX0_doIt_11 (by decide) (by decide) (by rfl) (by decide) ?_
    refine gw_aload_n (q := 61) hc dX0_doIt_60 rfl rfl xg_2 ?_
    refine gw_ldcwS (q := 64) hc dX0_doIt_61 rfl (k := 0) (by decide) ?_
    refine gw_callV (q := 67) (bc' := 5) (bs' := 151) (As := [_]) hc dX0_doIt_64 rfl q1224 mw_J5_equals (rc_s hc (k := 0) (by decide)) rfl rfl (m_J5_equals (k := 0) (by decide)) ⟨Nat.le_of_ble_eq_true rfl, Nat.le_of_ble_eq_true rfl⟩ (Nat.le_of_ble_eq_true rfl) (Nat.le_of_ble_eq_true rfl) (Nat.le_of_ble_eq_true rfl) (goI fun r64 G64 h64 => ?_)
    obtain ⟨er64, hgg⟩ := h64
    rw [hgg, er64]
    refine gw_if_eq  (q := 70) (t := 132) hc dX0_doIt_67 rfl (by decide) (by omega) (fun c67 => ?_) (fun c67 => ?_)
    · exfalso; omega
    · skip
      refine gw_iconst (q := 71) hc dX0_doIt_70 rfl ?_
      refine gw_istore_n (q := 72) hc dX0_doIt_71 rfl rfl xs_3 (by decide) (n2p xg_2 rfl) ?_
      refine gw_goto (q := 132) hc dX0_doIt_72 (by decide) ?_
      refine gw_iload_n (q := 133) hc dX0_doIt_132 rfl rfl xg_3 ?_
      refine gw_tableIn (t := 168) hc dX0_doIt_133 (by decide) (by decide) (by rfl) (by decide) ?_
      refine gw_aload_n (q := 169) hc dX0_doIt_168 rfl rfl xg_0 ?_
      refine gw_aload_n (q := 170) hc dX0_doIt_169 rfl rfl xg_1 ?_
      refine gw_getN (q := 173) hc dX0_doIt_170 rfl cE_OR 1 (by decide) q1173 (fun _ h => h) hO rfl ?_
      refine gw_iconst (q := 174) hc dX0_doIt_173 rfl ?_
      refine gw_callV (q := 177) (bc' := 0) (bs' := 0) (As := [_, _]) hc dX0_doIt_174 rfl q531 mw_X0_comes (rc_o hc cE_ED hC.1.1) rfl rfl (m_X0_comes_z hC hW hn ⟨by omega, by omega⟩) ⟨Nat.le_of_ble_eq_true rfl, Nat.le_of_ble_eq_true rfl⟩ (Nat.le_of_ble_eq_true rfl) (Nat.le_of_ble_eq_true rfl) (Nat.le_of_ble_eq_true rfl) (goI fun r174 G174 h174 => ?_)
      have hr174 : (wyK S 0 f s < 0 ∧ r174 < 0 ∧ rI r174 ∧ G174 = G) ∨ (wyK S 0 f s = 0 ∧ 0 ≤ r174 ∧ rI r174 ∧ ∃ tg' : Nat → Nat, frE tg tg' G G174 ∧ edR D X tg' e nid (dsK S 0 f s) P kn L V Pd ln G174) := by
          unfold wyK dsK; rw [if_pos rfl, if_pos rfl]
          rcases h174 with ⟨x1, x2, x3⟩ | ⟨hx1, x2, x3⟩
          · exact Or.inl ⟨x1, by omega, by rw [x2]; exact wn_r0, x3⟩
          · have hge : 0 ≤ r174 ∧ r174 ≤ 2000000000 := by omega
            exact Or.inr ⟨hx1, hge.1, ⟨by omega, by omega⟩, x3⟩
      refine gw_goto (q := 241) hc dX0_doIt_177 (by decide) ?_
      exact gw_iret hc dX0_doIt_241 ⟨_, rfl, hr174⟩
  · skip
    refine gw_lookup (t := 75) hc dX0_doIt_11 (by decide) (by decide) (by rfl) (by decide) ?_
    refine gw_aload_n (q := 76) hc dX0_doIt_75 rfl rfl xg_2 ?_
    refine gw_ldcwS (q := 79) hc dX0_doIt_76 rfl (k := 1) (by decide) ?_
    refine gw_callV (q := 82) (bc' := 5) (bs' := 151) (As := [_]) hc dX0_doIt_79 rfl q1224 mw_J5_equals (rc_s hc (k := 1) (by decide)) rfl rfl (m_J5_equals (k := 1) (by decide)) ⟨Nat.le_of_ble_eq_true rfl, Nat.le_of_ble_eq_true rfl⟩ (Nat.le_of_ble_eq_true rfl) (Nat.le_of_ble_eq_true rfl) (Nat.le_of_ble_eq_true rfl) (goI fun r79 G79 h79 => ?_)
    obtain ⟨er79, hgg⟩ := h79
    rw [hgg, er79]
    refine gw_if_eq  (q := 85) (t := 132) hc dX0_doIt_82 rfl (by decide) (by omega) (fun c82 => ?_) (fun c82 => ?_)
    · exfalso; omega
    · skip
      refine gw_iconst (q := 86) hc dX0_doIt_85 rfl ?_
      refine gw_istore_n (q := 87) hc dX0_doIt_86 rfl rfl xs_3 (by decide) (n2p xg_2 rfl) ?_
      refine gw_goto (q := 132) hc dX0_doIt_87 (by decide) ?_
      refine gw_iload_n (q := 133) hc dX0_doIt_132 rfl rfl xg_3 ?_
      refine gw_tableIn (t := 180) hc dX0_doIt_133 (by decide) (by decide) (by rfl) (by decide) ?_
      refine gw_aload_n (q := 181) hc dX0_doIt_180 rfl rfl xg_0 ?_
      refine gw_aload_n (q := 182) hc dX0_doIt_181 rfl rfl xg_1 ?_
      refine gw_getN (q := 185) hc dX0_doIt_182 rfl cE_OR 1 (by decide) q1173 (fun _ h => h) hO rfl ?_
      refine gw_aload_n (q := 186) hc dX0_doIt_185 rfl rfl xg_1 ?_
      refine gw_getN (q := 189) hc dX0_doIt_186 rfl cE_OR 2 (by decide) q1175 (fun _ h => h) hO rfl ?_
      refine gw_iconst (q := 190) hc dX0_doIt_189 rfl ?_
      refine gw_callV (q := 193) (bc' := 2) (bs' := 20) (As := [_, _, _]) hc dX0_doIt_190 rfl q562 mw_X0_connects (rc_o hc cE_ED hC.1.1) rfl rfl (m_X0_connects_z hC hW hn ⟨by omega, by omega⟩ ⟨by omega, by omega⟩) ⟨Nat.le_of_ble_eq_true rfl, Nat.le_of_ble_eq_true rfl⟩ (Nat.le_of_ble_eq_true rfl) (Nat.le_of_ble_eq_true rfl) (Nat.le_of_ble_eq_true rfl) (goI fun r190 G190 h190 => ?_)
      have hr190 : (wyK S 1 f s < 0 ∧ r190 < 0 ∧ rI r190 ∧ G190 = G) ∨ (wyK S 1 f s = 0 ∧ 0 ≤ r190 ∧ rI r190 ∧ ∃ tg' : Nat → Nat, frE tg tg' G G190 ∧ edR D X tg' e nid (dsK S 1 f s) P kn L V Pd ln G190) := by
          unfold wyK dsK; rw [if_neg (by omega), if_pos rfl, if_neg (by omega), if_pos rfl]
          rcases h190 with ⟨x1, x2, x3⟩ | ⟨hx1, x2, x3⟩
          · exact Or.inl ⟨x1, by omega, by rw [x2]; exact wn_r1, x3⟩
          · have hge : 0 ≤ r190 ∧ r190 ≤ 2000000000 := by omega
            exact Or.inr ⟨hx1, hge.1, ⟨by omega, by omega⟩, x3⟩
      refine gw_goto (q := 241) hc dX0_doIt_193 (by decide) ?_
      exact gw_iret hc dX0_doIt_241 ⟨_, rfl, hr190⟩
  · skip
    refine gw_lookup (t := 90) hc dX0_doIt_11 (by decide) (by decide) (by rfl) (by decide) ?_
    refine gw_aload_n (q := 91) hc dX0_doIt_90 rfl rfl xg_2 ?_
    refine gw_ldcwS (q := 94) hc dX0_doIt_91 rfl (k := 2) (by decide) ?_
    refine gw_callV (q := 97) (bc' := 5) (bs' := 151) (As := [_]) hc dX0_doIt_94 rfl q1224 mw_J5_equals (rc_s hc (k := 2) (by decide)) rfl rfl (m_J5_equals (k := 2) (by decide)) ⟨Nat.le_of_ble_eq_true rfl, Nat.le_of_ble_eq_true rfl⟩ (Nat.le_of_ble_eq_true rfl) (Nat.le_of_ble_eq_true rfl) (Nat.le_of_ble_eq_true rfl) (goI fun r94 G94 h94 => ?_)
    obtain ⟨er94, hgg⟩ := h94
    rw [hgg, er94]
    refine gw_if_eq  (q := 100) (t := 132) hc dX0_doIt_97 rfl (by decide) (by omega) (fun c97 => ?_) (fun c97 => ?_)
    · exfalso; omega
    · skip
      refine gw_iconst (q := 101) hc dX0_doIt_100 rfl ?_
      refine gw_istore_n (q := 102) hc dX0_doIt_101 rfl rfl xs_3 (by decide) (n2p xg_2 rfl) ?_
      refine gw_goto (q := 132) hc dX0_doIt_102 (by decide) ?_
      refine gw_iload_n (q := 133) hc dX0_doIt_132 rfl rfl xg_3 ?_
      refine gw_tableIn (t := 196) hc dX0_doIt_133 (by decide) (by decide) (by rfl) (by decide) ?_
      refine gw_aload_n (q := 197) hc dX0_doIt_196 rfl rfl xg_0 ?_
      refine gw_aload_n (q := 198) hc dX0_doIt_197 rfl rfl xg_1 ?_
      refine gw_getN (q := 201) hc dX0_doIt_198 rfl cE_OR 1 (by decide) q1173 (fun _ h => h) hO rfl ?_
      refine gw_iconst (q := 202) hc dX0_doIt_201 rfl ?_
      refine gw_callV (q := 205) (bc' := 5) (bs' := 151) (As := [_, _]) hc dX0_doIt_202 rfl q577 mw_X0_turns (rc_o hc cE_ED hC.1.1) rfl rfl (m_X0_turns_z hC hW hn ⟨by omega, by omega⟩) ⟨Nat.le_of_ble_eq_true rfl, Nat.le_of_ble_eq_true rfl⟩ (Nat.le_of_ble_eq_true rfl) (Nat.le_of_ble_eq_true rfl) (Nat.le_of_ble_eq_true rfl) (goI fun r202 G202 h202 => ?_)
      have hr202 : (wyK S 2 f s < 0 ∧ r202 < 0 ∧ rI r202 ∧ G202 = G) ∨ (wyK S 2 f s = 0 ∧ 0 ≤ r202 ∧ rI r202 ∧ ∃ tg' : Nat → Nat, frE tg tg' G G202 ∧ edR D X tg' e nid (dsK S 2 f s) P kn L V Pd ln G202) := by
          unfold wyK dsK; rw [if_neg (by omega), if_neg (by omega), if_pos rfl, if_neg (by omega), if_neg (by omega), if_pos rfl]
          rcases h202 with ⟨x1, x2, x3⟩ | ⟨hx1, x2, x3⟩
          · exact Or.inl ⟨x1, by omega, by rw [x2]; exact wn_r2, x3⟩
          · have hge : 0 ≤ r202 ∧ r202 ≤ 2000000000 := by have q : 0 ≤ f ∧ f < S 8 := (by unfold wnO at hx1; split at hx1 <;> omega); have := (hW.1.2.1.2 f q.1 q.2).2.2; omega
            exact Or.inr ⟨hx1, hge.1, ⟨by omega, by omega⟩, x3⟩
      refine gw_goto (q := 241) hc dX0_doIt_205 (by decide) ?_
      exact gw_iret hc dX0_doIt_241 ⟨_, rfl, hr202⟩
  · skip
    refine gw_lookup (t := 105) hc dX0_doIt_11 (by decide) (by decide) (by rfl) (by decide) ?_
    refine gw_aload_n (q := 106) hc dX0_doIt_105 rfl rfl xg_2 ?_
    refine gw_ldcwS (q := 109) hc dX0_doIt_106 rfl (k := 3) (by decide) ?_
    refine gw_callV (q := 112) (bc' := 5) (bs' := 151) (As := [_]) hc dX0_doIt_109 rfl q1224 mw_J5_equals (rc_s hc (k := 3) (by decide)) rfl rfl (m_J5_equals (k := 3) (by decide)) ⟨Nat.le_of_ble_eq_true rfl, Nat.le_of_ble_eq_true rfl⟩ (Nat.le_of_ble_eq_true rfl) (Nat.le_of_ble_eq_true rfl) (Nat.le_of_ble_eq_true rfl) (goI fun r109 G109 h109 => ?_)
    obtain ⟨er109, hgg⟩ := h109
    rw [hgg, er109]
    refine gw_if_eq  (q := 115) (t := 132) hc dX0_doIt_112 rfl (by decide) (by omega) (fun c112 => ?_) (fun c112 => ?_)
    · exfalso; omega
    · skip
      refine gw_iconst (q := 116) hc dX0_doIt_115 rfl ?_
      refine gw_istore_n (q := 117) hc dX0_doIt_116 rfl rfl xs_3 (by decide) (n2p xg_2 rfl) ?_
      refine gw_goto (q := 132) hc dX0_doIt_117 (by decide) ?_
      refine gw_iload_n (q := 133) hc dX0_doIt_132 rfl rfl xg_3 ?_
      refine gw_tableIn (t := 208) hc dX0_doIt_133 (by decide) (by decide) (by rfl) (by decide) ?_
      refine gw_aload_n (q := 209) hc dX0_doIt_208 rfl rfl xg_0 ?_
      refine gw_aload_n (q := 210) hc dX0_doIt_209 rfl rfl xg_1 ?_
      refine gw_getN (q := 213) hc dX0_doIt_210 rfl cE_OR 1 (by decide) q1173 (fun _ h => h) hO rfl ?_
      refine gw_iconst (q := 214) hc dX0_doIt_213 rfl ?_
      refine gw_callV (q := 217) (bc' := 5) (bs' := 151) (As := [_, _]) hc dX0_doIt_214 rfl q628 mw_X0_passes (rc_o hc cE_ED hC.1.1) rfl rfl (m_X0_passes_z hC hW hn ⟨by omega, by omega⟩) ⟨Nat.le_of_ble_eq_true rfl, Nat.le_of_ble_eq_true rfl⟩ (Nat.le_of_ble_eq_true rfl) (Nat.le_of_ble_eq_true rfl) (Nat.le_of_ble_eq_true rfl) (goI fun r214 G214 h214 => ?_)
      have hr214 : (wyK S 3 f s < 0 ∧ r214 < 0 ∧ rI r214 ∧ G214 = G) ∨ (wyK S 3 f s = 0 ∧ 0 ≤ r214 ∧ rI r214 ∧ ∃ tg' : Nat → Nat, frE tg tg' G G214 ∧ edR D X tg' e nid (dsK S 3 f s) P kn L V Pd ln G214) := by
          unfold wyK dsK; rw [if_neg (by omega), if_neg (by omega), if_neg (by omega), if_pos rfl, if_neg (by omega), if_neg (by omega), if_neg (by omega), if_pos rfl]
          rcases h214 with ⟨x1, x2, x3⟩ | ⟨hx1, x2, x3⟩
          · exact Or.inl ⟨x1, by omega, by rw [x2]; exact wn_r3, x3⟩
          · have hge : 0 ≤ r214 ∧ r214 ≤ 2000000000 := by have := paT_bd hW.1 f.toNat; have q : 1 ≤ f ∧ f ≤ 1440 := (by unfold wnP at hx1; (repeat' split at hx1) <;> omega); omega
            exact Or.inr ⟨hx1, hge.1, ⟨by omega, by omega⟩, x3⟩
      refine gw_goto (q := 241) hc dX0_doIt_217 (by decide) ?_
      exact gw_iret hc dX0_doIt_241 ⟨_, rfl, hr214⟩
  · skip
    refine gw_lookup (t := 120) hc dX0_doIt_11 (by decide) (by decide) (by rfl) (by decide) ?_
    refine gw_aload_n (q := 121) hc dX0_doIt_120 rfl rfl xg_2 ?_
    refine gw_ldcwS (q := 124) hc dX0_doIt_121 rfl (k := 4) (by decide) ?_
    refine gw_callV (q := 127) (bc' := 5) (bs' := 151) (As := [_]) hc dX0_doIt_124 rfl q1224 mw_J5_equals (rc_s hc (k := 4) (by decide)) rfl rfl (m_J5_equals (k := 4) (by decide)) ⟨Nat.le_of_ble_eq_true rfl, Nat.le_of_ble_eq_true rfl⟩ (Nat.le_of_ble_eq_true rfl) (Nat.le_of_ble_eq_true rfl) (Nat.le_of_ble_eq_true rfl) (goI fun r124 G124 h124 => ?_)
    obtain ⟨er124, hgg⟩ := h124
    rw [hgg, er124]
    refine gw_if_eq  (q := 130) (t := 132) hc dX0_doIt_127 rfl (by decide) (by omega) (fun c127 => ?_) (fun c127 => ?_)
    · exfalso; omega
    · skip
      refine gw_iconst (q := 131) hc dX0_doIt_130 rfl ?_
      refine gw_istore_n (q := 132) hc dX0_doIt_131 rfl rfl xs_3 (by decide) (n2p xg_2 rfl) ?_
      refine gw_iload_n (q := 133) hc dX0_doIt_132 rfl rfl xg_3 ?_
      refine gw_tableIn (t := 220) hc dX0_doIt_133 (by decide) (by decide) (by rfl) (by decide) ?_
      refine gw_aload_n (q := 221) hc dX0_doIt_220 rfl rfl xg_0 ?_
      refine gw_aload_n (q := 222) hc dX0_doIt_221 rfl rfl xg_1 ?_
      refine gw_getN (q := 225) hc dX0_doIt_222 rfl cE_OR 1 (by decide) q1173 (fun _ h => h) hO rfl ?_
      refine gw_iconst (q := 226) hc dX0_doIt_225 rfl ?_
      refine gw_callV (q := 229) (bc' := 5) (bs' := 151) (As := [_, _]) hc dX0_doIt_226 rfl q591 mw_X0_tampers (rc_o hc cE_ED hC.1.1) rfl rfl (m_X0_tampers_z hC hW hn ⟨by omega, by omega⟩) ⟨Nat.le_of_ble_eq_true rfl, Nat.le_of_ble_eq_true rfl⟩ (Nat.le_of_ble_eq_true rfl) (Nat.le_of_ble_eq_true rfl) (Nat.le_of_ble_eq_true rfl) (goI fun r226 G226 h226 => ?_)
      have hr226 : (wyK S 4 f s < 0 ∧ r226 < 0 ∧ rI r226 ∧ G226 = G) ∨ (wyK S 4 f s = 0 ∧ 0 ≤ r226 ∧ rI r226 ∧ ∃ tg' : Nat → Nat, frE tg tg' G G226 ∧ edR D X tg' e nid (dsK S 4 f s) P kn L V Pd ln G226) := by
          unfold wyK dsK; rw [if_neg (by omega), if_neg (by omega), if_neg (by omega), if_neg (by omega), if_pos rfl, if_neg (by omega), if_neg (by omega), if_neg (by omega), if_neg (by omega), if_pos rfl]
          rcases h226 with ⟨x1, x2, x3⟩ | ⟨hx1, x2, x3⟩
          · exact Or.inl ⟨x1, by omega, by rw [x2]; exact wn_r4, x3⟩
          · have hge : 0 ≤ r226 ∧ r226 ≤ 2000000000 := by have q : 0 ≤ f ∧ f < S 7 := (by unfold wnT at hx1; (repeat' split at hx1) <;> omega); have := hW.2.2.2.2 f q.1 q.2; omega
            exact Or.inr ⟨hx1, hge.1, ⟨by omega, by omega⟩, x3⟩
      refine gw_goto (q := 241) hc dX0_doIt_229 (by decide) ?_
      exact gw_iret hc dX0_doIt_241 ⟨_, rfl, hr226⟩
  · skip
    refine gw_lookup (off := 121) (t := 132) hc dX0_doIt_11 (by decide) (by decide) (by rfl) (by decide) ?_
    refine gw_iload_n (q := 133) hc dX0_doIt_132 rfl rfl xg_3 ?_
    refine gw_tableOut (t := 232) hc dX0_doIt_133 (by decide) (by decide) (by decide) ?_
    refine gw_aload_n (q := 233) hc dX0_doIt_232 rfl rfl xg_0 ?_
    refine gw_aload_n (q := 234) hc dX0_doIt_233 rfl rfl xg_1 ?_
    refine gw_getN (q := 237) hc dX0_doIt_234 rfl cE_OR 1 (by decide) q1173 (fun _ h => h) hO rfl ?_
    refine gw_iconst (q := 238) hc dX0_doIt_237 rfl ?_
    refine gw_callV (q := 241) (bc' := 5) (bs' := 151) (As := [_, _]) hc dX0_doIt_238 rfl q608 mw_X0_visits (rc_o hc cE_ED hC.1.1) rfl rfl (m_X0_visits_z hC hW hn ⟨by omega, by omega⟩) ⟨Nat.le_of_ble_eq_true rfl, Nat.le_of_ble_eq_true rfl⟩ (Nat.le_of_ble_eq_true rfl) (Nat.le_of_ble_eq_true rfl) (Nat.le_of_ble_eq_true rfl) (goI fun r238 G238 h238 => ?_)
    have hr238 : (wyK S 5 f s < 0 ∧ r238 < 0 ∧ rI r238 ∧ G238 = G) ∨ (wyK S 5 f s = 0 ∧ 0 ≤ r238 ∧ rI r238 ∧ ∃ tg' : Nat → Nat, frE tg tg' G G238 ∧ edR D X tg' e nid (dsK S 5 f s) P kn L V Pd ln G238) := by
        unfold wyK dsK; rw [if_neg (by omega), if_neg (by omega), if_neg (by omega), if_neg (by omega), if_neg (by omega), if_neg (by omega), if_neg (by omega), if_neg (by omega), if_neg (by omega), if_neg (by omega)]
        rcases h238 with ⟨x1, x2, x3⟩ | ⟨hx1, x2, x3⟩
        · exact Or.inl ⟨x1, by omega, by rw [x2]; exact wn_r5, x3⟩
        · have hge : 0 ≤ r238 ∧ r238 ≤ 2000000000 := by have q : 0 ≤ f ∧ f < S 7 := (by unfold wnI at hx1; split at hx1 <;> omega); have := biF_bd hW f q.1 q.2; omega
          exact Or.inr ⟨hx1, hge.1, ⟨by omega, by omega⟩, x3⟩
    exact gw_iret hc dX0_doIt_241 ⟨_, rfl, hr238⟩

