/-! ===== THE CLASS: over all meters; undo, saving ===== -/
set_option maxRecDepth 100000
def blS (S : Int → Int) : Nat → Int
  | 0 => 0
  | k + 1 => blS S k + S (11 + 13 * (k : Int) + 8)
/-- what all meters were billed is kept -/
def blW (S : Int → Int) : Prop := S 9 = blS S (S 7).toNat
def alV (S : Int → Int) (w : Int) (n : Nat) : Int := if w = 0 then bts (fun k => decide (S (11 + 13 * k + 7) = 1)) n else if w = 1 then tnS S n else blS S n
section ALV
variable {S : Int → Int} {w : Int} {k : Nat}
theorem alV_b (h : w = 0) (hd : S (11 + 13 * (k : Int) + 7) = 1) : alV S w k + 2 ^ k = alV S w (k + 1) := by
  unfold alV
  rw [if_pos h, if_pos h]
  simp only [bts]
  rw [if_pos (by simpa using hd)]
theorem alV_n (h : w = 0) (hd : S (11 + 13 * (k : Int) + 7) ≠ 1) : alV S w k + 0 = alV S w (k + 1) := by
  unfold alV
  rw [if_pos h, if_pos h]
  simp only [bts]
  rw [if_neg (by simpa using hd)]
theorem alV_t (h : w = 1) : alV S w k + (S (11 + 13 * (k : Int) + 3) + S (11 + 13 * (k : Int) + 4)) = alV S w (k + 1) := by
  unfold alV
  rw [if_neg (by omega), if_pos h, if_neg (by omega), if_pos h]
  rfl
theorem alV_c (h : w ≠ 0 ∧ w ≠ 1) : alV S w k + S (11 + 13 * (k : Int) + 8) = alV S w (k + 1) := by
  unfold alV
  rw [if_neg h.1, if_neg h.2, if_neg h.1, if_neg h.2]
  rfl
theorem cnt_al {ln kn x : Int} (hx : 5 ≤ x ∧ x ≤ 7) (hB : blW S) : alV S (x - 5) (S 7).toNat = cntF S ln kn x := by
  rcases (by omega : x = 5 ∨ x = 6 ∨ x = 7) with rfl | rfl | rfl
  · rfl
  · rfl
  · exact hB.symm
theorem lg_sm {m : Int} : ∀ n : Nat, lgS S m n = 10000000 - tnF S m + smL (fun c => tnF S (c : Int)) ((List.range (n + 1)).filter (chP S m))
  | 0 => by
    have e : ((List.range (0 + 1)).filter (chP S m)) = [] := by simp [List.range_succ, chP]
    rw [e]
    show 10000000 - tnF S m = 10000000 - tnF S m + 0
    omega
  | n + 1 => by
    rw [smL_range]
    simp only [lgS]
    rw [lg_sm n]
    by_cases h : S (11 + 13 * ((n : Int) + 1)) = m
    · rw [if_pos h, if_pos (by simp [chP]; exact h)]
      push_cast
      omega
    · rw [if_neg h, if_neg (by simp [chP]; exact h)]
      omega
theorem lg_ch {m : Int} (h7 : 1 ≤ S 7) : lgS S m (S 7 - 1).toNat = 10000000 - tnF S m + smL (fun c => tnF S (c : Int)) (chL S m) := by
  rw [lg_sm]
  unfold chL
  rw [show (S 7 - 1).toNat + 1 = (S 7).toNat by omega]
end ALV
def svF (S L : Int → Int) (k : Int) : Int → Int := fun j => if 138 * k ≤ j ∧ j < 138 * k + 138 then S (j - 138 * k) else L j
theorem svF_1 {S L : Int → Int} {k : Int} : ∀ j, 0 ≤ j → j < 138 → svF S L k (138 * k + j) = S j := fun j a b => by
  unfold svF
  rw [if_pos (by omega), show 138 * k + j - 138 * k = j by omega]
theorem svF_2 {S L : Int → Int} {k : Int} : ∀ j, (j < 138 * k ∨ 138 * k + 138 ≤ j) → svF S L k j = L j := fun j h => by
  unfold svF
  rw [if_neg (by omega)]

set_option maxHeartbeats 4000000 in
theorem m_X0_all {l : Launch} {D : va_G} {X : Nat → Nat} {b0 : Nat} {tg : Nat → Nat} {e nid pl sv pd : Nat} {h : Int → Nat} {A : Int → Nat → Nat} {S P L V Pd : Int → Int} {kn ln N : Int} {G : gM} (hC : edC D X tg e nid pl sv pd h A S P kn L V Pd ln G) (hW : rowW S N) (hn : nid < 890) {w : Int} (hw : w = 0 ∨ w = 1 ∨ w = 2) : gMet l D X b0 yX0_all cX0_all 5 (some FieldType.int) (rmE 3 1 4) [.ref e, .int (iI w)] G (pI fun r G' => r = alV S w (S 7).toNat ∧ ∃ tg' : Nat → Nat, frE tg tg' G G' ∧ edR D X tg' e nid S P kn L V Pd ln G') := by
  refine gm_start (own := "EnergyDiscs") (lv := [some (.ref e), some (.int (iI w)), none, none, none]) (by decide +kernel) rfl (Nat.le_of_ble_eq_true rfl) rfl (fun p_ e_ s_ m_ args_ below_ meth_ c_ hc hnm => ?_)
  obtain ⟨hlt, W, hH⟩ := ed_H hC
  obtain ⟨mcm, arm, hmcm, hMc, hMa, -⟩ := alR_P hH.2.2.2.2.1
  obtain ⟨mcl, arl, hmcl, hLc, hLa, -⟩ := alR_P hH.2.2.2.2.2.1
  have hb := hH.1
  refine gw_iconst (q := 1) hc dX0_all_0 rfl ?_
  refine gw_istore_n (q := 2) hc dX0_all_1 rfl rfl xs_2 (by decide) (n2p xg_1 rfl) ?_
  refine gw_aload_n (q := 3) hc dX0_all_2 rfl rfl xg_0 ?_
  refine gw_get (q := 6) hc dX0_all_3 rfl cE_ED 0 (by decide) q198 (fun _ h => h) hC.1.1 rfl ?_
  refine gw_getN (q := 9) hc dX0_all_6 rfl cE_HO 1 (by decide) q145 (fun _ h => h) hH.2.2.1 rfl ?_
  refine gw_callF (q := 14) (bc' := 0) (bs' := 0) (As := []) hc dX0_all_9 rfl cE_AL q931 mf_J2_iterator_7 rfl rfl (m_J2_iterator hMc) (rc_o hc cE_AL hMc) ⟨Nat.le_of_ble_eq_true rfl, Nat.le_of_ble_eq_true rfl⟩ (Nat.le_of_ble_eq_true rfl) (Nat.le_of_ble_eq_true rfl) (Nat.le_of_ble_eq_true rfl) (goA fun r9 G9 h9 => ?_)
  obtain ⟨hni, hgg⟩ := h9
  rw [hgg]
  have htn : ∀ {f : va_E}, G r9 = none → (99800 / 100 = 998 ∨ 998 ≤ 99800 / 100) → tgR tg (fun q => if q = r9 then 99800 else tg q) 998 G (gup G r9 f) := fun a b => tgR_new a b
  refine gw_astore_n (q := 15) hc dX0_all_14 rfl rfl xs_3 (by decide) (n2p xg_2 rfl) ?_
  refine gw_lv (show _ = [some (.ref e), some (.int (iI w)), some (.int (iI (alV S w 0))), some (.ref r9), none] from by rcases hw with rfl | rfl | rfl <;> rfl) ?_
  refine gw_loop (σ := Nat × Int) (fun x => (x.1 : Int) ≤ S 7) (fun x => 7 - x.1) (fun x => gup G r9 (oE 9 [.int (iI (x.1 : Int)), .int (iI x.2), .int (iI mcm), .ref (A (-1) 2)])) (fun x => [some (.ref e), some (.int (iI w)), some (.int (iI (alV S w x.1))), some (.ref r9), none]) ?_ (0, -1) (by dsimp only; omega)
  rintro ⟨k, lr⟩ hI15 ih15
  try dsimp only at hI15 ⊢
  have hMc1 := gup_k (e' := oE 9 [.int (iI (k : Int)), .int (iI lr), .int (iI mcm), .ref (A (-1) 2)]) hMc hni
  have hMa1 := alP_x (G' := gup G r9 (oE 9 [.int (iI (k : Int)), .int (iI lr), .int (iI mcm), .ref (A (-1) 2)])) hMa (fun f hf => gup_k hf hni)
  refine gw_aload_n (q := 16) hc dX0_all_15 rfl rfl xg_3 ?_
  refine gw_callF (q := 21) (bc' := 0) (bs' := 0) (As := []) hc dX0_all_16 rfl cE_IT q933 mf_J9_hasNext_9 rfl rfl (m_J9_hasNext hMc1 gup_s ⟨⟨by omega, by omega⟩, ⟨by omega, by omega⟩⟩) (rc_o hc cE_IT gup_s) ⟨Nat.le_of_ble_eq_true rfl, Nat.le_of_ble_eq_true rfl⟩ (Nat.le_of_ble_eq_true rfl) (Nat.le_of_ble_eq_true rfl) (Nat.le_of_ble_eq_true rfl) (goI fun r16 G16 h16 => ?_)
  obtain ⟨b16, hgg⟩ := h16
  rw [hgg]
  refine gw_if_eq  (q := 24) (t := 85) hc dX0_all_21 rfl (by decide) (by omega) (fun c21 => ?_) (fun c21 => ?_)
  · skip
    refine gw_iload_n (q := 86) hc dX0_all_85 rfl rfl xg_2 ?_
    exact gw_iret hc dX0_all_86 ⟨_, rfl, ⟨by obtain rfl : k = (S 7).toNat := (by omega); rfl, _, frE_of (htn hni (Or.inr (by omega))) (by omega), pl, sv, pd, h, A, ed_oth hC (htn hni (Or.inr (by omega))) ⟨by omega, by omega, by omega⟩ (by omega)⟩⟩
  · skip
    refine gw_aload_n (q := 25) hc dX0_all_24 rfl rfl xg_3 ?_
    refine gw_callF (q := 30) (bc' := 0) (bs' := 0) (As := []) hc dX0_all_25 rfl cE_IT q935 mf_J9_next_9 rfl rfl (m_J9_next hMc1 gup_s hmcm hMa1 ⟨by omega, by omega⟩) (rc_o hc cE_IT gup_s) ⟨Nat.le_of_ble_eq_true rfl, Nat.le_of_ble_eq_true rfl⟩ (Nat.le_of_ble_eq_true rfl) (Nat.le_of_ble_eq_true rfl) (Nat.le_of_ble_eq_true rfl) (goA fun r25 G25 h25 => ?_)
    obtain ⟨er25, hgg⟩ := h25
    have er25b : r25 = A (-1) (10 + k) := by rw [er25]; show A (-1) (10 + (k : Int).toNat) = _; rw [Int.toNat_natCast]
    rw [hgg, er25b]
    refine gw_G gup_gup ?_
    have hk7 : (k : Int) < S 7 := by omega
    have hmt := gup_k (e' := oE 9 [.int (iI ((k : Int) + 1)), .int (iI (k : Int)), .int (iI mcm), .ref (A (-1) 2)]) (hH.2.2.2.2.2.2.1 k hk7).1 hni
    have hbk := rw_b hW k hk7
    refine gw_cast (q := 33) hc dX0_all_30 rfl q603 (rc_o hc cE_ME hmt) ?_
    refine gw_astore (q := 35) hc dX0_all_33 rfl xs_4 (by decide) (n2p xg_3 rfl) ?_
    refine gw_iload_n (q := 36) hc dX0_all_35 rfl rfl xg_2 ?_
    refine gw_iload_n (q := 37) hc dX0_all_36 rfl rfl xg_1 ?_
    refine gw_if_ne  (q := 40) (t := 62) hc dX0_all_37 rfl (by decide) (by omega) (fun c37 => ?_) (fun c37 => ?_)
    · skip
      refine gw_iload_n (q := 63) hc dX0_all_62 rfl rfl xg_1 ?_
      refine gw_iconst (q := 64) hc dX0_all_63 rfl ?_
      refine gw_icmp_ne  (q := 67) (t := 75) hc dX0_all_64 rfl (by decide) (by omega) (by omega) (fun c64 => ?_) (fun c64 => ?_)
      · skip
        refine gw_aload (q := 77) hc dX0_all_75 rfl xg_4 ?_
        refine gw_getN (q := 80) hc dX0_all_77 rfl cE_ME 12 (by decide) q441 (fun _ h => h) hmt rfl ?_
        refine gw_iadd (q := 81) hc dX0_all_80 rfl ?_
        rw [alV_c ⟨c37, c64⟩]
        refine gw_istore_n (q := 82) hc dX0_all_81 rfl rfl xs_2 (by decide) (n2p xg_1 rfl) ?_
        refine gw_goto (q := 15) hc dX0_all_82 (by decide) ?_
        refine gw_drop (i := 4) xs_4 ?_
        exact ih15 (k + 1, (k : Int)) (by dsimp only; omega) (by dsimp only; omega)
      · skip
        refine gw_aload (q := 69) hc dX0_all_67 rfl xg_4 ?_
        refine gw_callV (q := 72) (bc' := 0) (bs' := 0) (As := []) hc dX0_all_69 rfl q936 mw_X3_turns (rc_o hc cE_ME hmt) rfl rfl (m_X3_turns hmt) ⟨Nat.le_of_ble_eq_true rfl, Nat.le_of_ble_eq_true rfl⟩ (Nat.le_of_ble_eq_true rfl) (Nat.le_of_ble_eq_true rfl) (Nat.le_of_ble_eq_true rfl) (goI fun r69 G69 h69 => ?_)
        obtain ⟨er69, hgg⟩ := h69
        rw [hgg, er69]
        refine gw_goto (q := 80) hc dX0_all_72 (by decide) ?_
        refine gw_iadd (q := 81) hc dX0_all_80 rfl ?_
        rw [alV_t c64]
        refine gw_istore_n (q := 82) hc dX0_all_81 rfl rfl xs_2 (by decide) (n2p xg_1 rfl) ?_
        refine gw_goto (q := 15) hc dX0_all_82 (by decide) ?_
        refine gw_drop (i := 4) xs_4 ?_
        exact ih15 (k + 1, (k : Int)) (by dsimp only; omega) (by dsimp only; omega)
    · skip
      refine gw_aload (q := 42) hc dX0_all_40 rfl xg_4 ?_
      refine gw_getN (q := 45) hc dX0_all_42 rfl cE_ME 15 (by decide) q450 (fun _ h => h) hmt rfl ?_
      refine gw_if_eq  (q := 48) (t := 58) hc dX0_all_45 rfl (by decide) (by omega) (fun c45 => ?_) (fun c45 => ?_)
      · skip
        refine gw_iconst (q := 59) hc dX0_all_58 rfl ?_
        refine gw_goto (q := 80) hc dX0_all_59 (by decide) ?_
        refine gw_iadd (q := 81) hc dX0_all_80 rfl ?_
        rw [alV_n c37 (by omega)]
        refine gw_istore_n (q := 82) hc dX0_all_81 rfl rfl xs_2 (by decide) (n2p xg_1 rfl) ?_
        refine gw_goto (q := 15) hc dX0_all_82 (by decide) ?_
        refine gw_drop (i := 4) xs_4 ?_
        exact ih15 (k + 1, (k : Int)) (by dsimp only; omega) (by dsimp only; omega)
      · skip
        refine gw_iconst (q := 49) hc dX0_all_48 rfl ?_
        refine gw_aload (q := 51) hc dX0_all_49 rfl xg_4 ?_
        refine gw_getN (q := 54) hc dX0_all_51 rfl cE_ME 0 (by decide) q411 (fun _ h => h) hmt rfl ?_
        refine gw_ishl (q := 55) hc dX0_all_54 rfl ?_
        rw [shl_b (Or.inr rfl) (by omega) (by omega), if_pos rfl, Int.toNat_natCast]
        refine gw_goto (q := 80) hc dX0_all_55 (by decide) ?_
        refine gw_iadd (q := 81) hc dX0_all_80 rfl ?_
        rw [alV_b c37 (by omega)]
        refine gw_istore_n (q := 82) hc dX0_all_81 rfl rfl xs_2 (by decide) (n2p xg_1 rfl) ?_
        refine gw_goto (q := 15) hc dX0_all_82 (by decide) ?_
        refine gw_drop (i := 4) xs_4 ?_
        exact ih15 (k + 1, (k : Int)) (by dsimp only; omega) (by dsimp only; omega)

theorem mw_X0_loadsOn : mV "EnergyDiscs" yX0_loadsOn cX0_loadsOn 3 (some FieldType.int) 0 := ⟨⟨rfl, by decide +kernel, by decide +kernel, by decide +kernel⟩, q940, qs25, q73, q941⟩
theorem mw_X0_all : mV "EnergyDiscs" yX0_all cX0_all 5 (some FieldType.int) 1 := ⟨⟨rfl, by decide +kernel, by decide +kernel, by decide +kernel⟩, q928, qs24, q73, q929⟩
set_option maxHeartbeats 4000000 in
theorem m_X0_count {l : Launch} {D : va_G} {X : Nat → Nat} {b0 : Nat} {tg : Nat → Nat} {e nid pl sv pd : Nat} {h : Int → Nat} {A : Int → Nat → Nat} {S P L V Pd : Int → Int} {kn ln N : Int} {G : gM} (hC : edC D X tg e nid pl sv pd h A S P kn L V Pd ln G) (hW : rowW S N) (hn : nid < 890) (hBl : blW S) {x : Int} (hx : rI x) : gMet l D X b0 yX0_count cX0_count 2 (some FieldType.int) (rmE 4 1 4) [.ref e, .int (iI x)] G (pI fun r G' => r = cntF S ln kn x ∧ ∃ tg' : Nat → Nat, frE tg tg' G G' ∧ edR D X tg' e nid S P kn L V Pd ln G') := by
  refine gm_start (own := "EnergyDiscs") (lv := [some (.ref e), some (.int (iI x))]) (by decide +kernel) rfl (Nat.le_of_ble_eq_true rfl) rfl (fun p_ e_ s_ m_ args_ below_ meth_ c_ hc hnm => ?_)
  obtain ⟨hlt, W, hH⟩ := ed_H hC
  obtain ⟨mcm, arm, hmcm, hMc, hMa, -⟩ := alR_P hH.2.2.2.2.1
  obtain ⟨mcl, arl, hmcl, hLc, hLa, -⟩ := alR_P hH.2.2.2.2.2.1
  have hb := hH.1
  obtain ⟨vl, mb, capp, fp, hG, hV, htp, hcap, hmb, hBp, hfp⟩ := hC.2.2.2.2.2.2
  obtain ⟨g, hgs, hg⟩ := hH.2.2.2.1
  have h6 := rw_6 hW
  have hkn := hC.2.2.2.1
  obtain ⟨mcp, arp, hmcp, hPc, hPa, harp⟩ := alR_P hC.2.2.2.2.1
  refine gw_iload_n (q := 1) hc dX0_count_0 rfl rfl xg_1 ?_
  refine gw_iconst (q := 2) hc dX0_count_1 rfl ?_
  refine gw_bipush (q := 4) hc dX0_count_2 rfl (by decide) ?_
  refine gw_callS (q := 7) (bc' := 1) (bs' := 4) (As := [_, _, _]) hc dX0_count_4 rfl q216 mw_X0_isIn rfl rfl (m_X0_isIn hx (by omega) (by omega)) ⟨Nat.le_of_ble_eq_true rfl, Nat.le_of_ble_eq_true rfl⟩ (Nat.le_of_ble_eq_true rfl) (Nat.le_of_ble_eq_true rfl) (Nat.le_of_ble_eq_true rfl) (goI fun r4 G4 h4 => ?_)
  obtain ⟨b4, hgg⟩ := h4
  rw [hgg]
  refine gw_if_eq  (q := 10) (t := 18) hc dX0_count_7 rfl (by decide) (by omega) (fun c7 => ?_) (fun c7 => ?_)
  · skip
    refine gw_iload_n (q := 19) hc dX0_count_18 rfl rfl xg_1 ?_
    refine gw_bipush (q := 21) hc dX0_count_19 rfl (by decide) ?_
    refine gw_bipush (q := 23) hc dX0_count_21 rfl (by decide) ?_
    refine gw_callS (q := 26) (bc' := 1) (bs' := 4) (As := [_, _, _]) hc dX0_count_23 rfl q216 mw_X0_isIn rfl rfl (m_X0_isIn hx (by omega) (by omega)) ⟨Nat.le_of_ble_eq_true rfl, Nat.le_of_ble_eq_true rfl⟩ (Nat.le_of_ble_eq_true rfl) (Nat.le_of_ble_eq_true rfl) (Nat.le_of_ble_eq_true rfl) (goI fun r23 G23 h23 => ?_)
    obtain ⟨b23, hgg⟩ := h23
    rw [hgg]
    refine gw_if_eq  (q := 29) (t := 42) hc dX0_count_26 rfl (by decide) (by omega) (fun c26 => ?_) (fun c26 => ?_)
    · skip
      refine gw_iload_n (q := 43) hc dX0_count_42 rfl rfl xg_1 ?_
      rcases (by omega : x < 0 ∨ x = 0 ∨ x = 1 ∨ x = 2 ∨ x = 3 ∨ x = 4 ∨ x = 5 ∨ x = 6 ∨ x = 7 ∨ x = 8 ∨ x = 9 ∨ x = 10 ∨ x = 11 ∨ x = 12 ∨ x = 13 ∨ x = 14 ∨ x = 15 ∨ x = 16 ∨ 16 < x) with w43 | w43 | w43 | w43 | w43 | w43 | w43 | w43 | w43 | w43 | w43 | w43 | w43 | w43 | w43 | w43 | w43 | w43 | w43
      · refine gw_tableOut (t := 208) hc dX0_count_43 (by omega) (Or.inl w43) (by decide) ?_
        refine gw_bipush (q := 210) hc dX0_count_208 rfl (by decide) ?_
        exact gw_iret hc dX0_count_210 ⟨_, rfl, ⟨by unfold cntF; rw [if_neg (by omega), if_neg (by omega), if_neg (by omega), if_neg (by omega), if_neg (by omega), if_neg (by omega), if_neg (by omega), if_neg (by omega), if_neg (by omega), if_neg (by omega)], tg, frE_rf, pl, sv, pd, h, A, hC⟩⟩
      · refine gw_tableIn (t := 124) hc dX0_count_43 (by omega) (by omega) (by rw [w43]; rfl) (by decide) ?_
        refine gw_aload_n (q := 125) hc dX0_count_124 rfl rfl xg_0 ?_
        refine gw_get (q := 128) hc dX0_count_125 rfl cE_ED 0 (by decide) q198 (fun _ h => h) hC.1.1 rfl ?_
        refine gw_getN (q := 131) hc dX0_count_128 rfl cE_HO 3 (by decide) q149 (fun _ h => h) hH.2.2.1 rfl ?_
        exact gw_iret hc dX0_count_131 ⟨_, rfl, ⟨by rw [w43]; rfl, tg, frE_rf, pl, sv, pd, h, A, hC⟩⟩
      · refine gw_tableIn (t := 132) hc dX0_count_43 (by omega) (by omega) (by rw [w43]; rfl) (by decide) ?_
        refine gw_aload_n (q := 133) hc dX0_count_132 rfl rfl xg_0 ?_
        refine gw_get (q := 136) hc dX0_count_133 rfl cE_ED 0 (by decide) q198 (fun _ h => h) hC.1.1 rfl ?_
        refine gw_getN (q := 139) hc dX0_count_136 rfl cE_HO 3 (by decide) q149 (fun _ h => h) hH.2.2.1 rfl ?_
        refine gw_callS (q := 142) (bc' := 1) (bs' := 4) (As := [_]) hc dX0_count_139 rfl q937 mw_X0_isNight rfl rfl (m_X0_isNight (by omega)) ⟨Nat.le_of_ble_eq_true rfl, Nat.le_of_ble_eq_true rfl⟩ (Nat.le_of_ble_eq_true rfl) (Nat.le_of_ble_eq_true rfl) (Nat.le_of_ble_eq_true rfl) (goI fun r139 G139 h139 => ?_)
        obtain ⟨b139, hgg⟩ := h139
        rw [hgg]
        refine gw_if_eq  (q := 145) (t := 149) hc dX0_count_142 rfl (by decide) (by omega) (fun c142 => ?_) (fun c142 => ?_)
        · skip
          refine gw_iconst (q := 150) hc dX0_count_149 rfl ?_
          exact gw_iret hc dX0_count_150 ⟨_, rfl, ⟨by rw [w43]; show _ = if ngt (S 6) then 1 else 0; rw [if_neg (by rcases b139 with ⟨q, -⟩ | ⟨-, q⟩; omega; exact q)], tg, frE_rf, pl, sv, pd, h, A, hC⟩⟩
        · skip
          refine gw_iconst (q := 146) hc dX0_count_145 rfl ?_
          refine gw_goto (q := 150) hc dX0_count_146 (by decide) ?_
          exact gw_iret hc dX0_count_150 ⟨_, rfl, ⟨by rw [w43]; show _ = if ngt (S 6) then 1 else 0; rw [if_pos (by rcases b139 with ⟨-, q⟩ | ⟨q, -⟩; exact q; omega)], tg, frE_rf, pl, sv, pd, h, A, hC⟩⟩
      · refine gw_tableIn (t := 151) hc dX0_count_43 (by omega) (by omega) (by rw [w43]; rfl) (by decide) ?_
        refine gw_aload_n (q := 152) hc dX0_count_151 rfl rfl xg_0 ?_
        refine gw_get (q := 155) hc dX0_count_152 rfl cE_ED 0 (by decide) q198 (fun _ h => h) hC.1.1 rfl ?_
        refine gw_getN (q := 158) hc dX0_count_155 rfl cE_HO 1 (by decide) q145 (fun _ h => h) hH.2.2.1 rfl ?_
        refine gw_callF (q := 163) (bc' := 1) (bs' := 4) (As := []) hc dX0_count_158 rfl cE_AL q232 mf_J2_size_7 rfl rfl (m_J2_size hMc) (rc_o hc cE_AL hMc) ⟨Nat.le_of_ble_eq_true rfl, Nat.le_of_ble_eq_true rfl⟩ (Nat.le_of_ble_eq_true rfl) (Nat.le_of_ble_eq_true rfl) (Nat.le_of_ble_eq_true rfl) (goI fun r158 G158 h158 => ?_)
        obtain ⟨er158, hgg⟩ := h158
        rw [hgg, er158]
        exact gw_iret hc dX0_count_163 ⟨_, rfl, ⟨by rw [w43]; rfl, tg, frE_rf, pl, sv, pd, h, A, hC⟩⟩
      · refine gw_tableIn (t := 164) hc dX0_count_43 (by omega) (by omega) (by rw [w43]; rfl) (by decide) ?_
        refine gw_aload_n (q := 165) hc dX0_count_164 rfl rfl xg_0 ?_
        refine gw_get (q := 168) hc dX0_count_165 rfl cE_ED 0 (by decide) q198 (fun _ h => h) hC.1.1 rfl ?_
        refine gw_getN (q := 171) hc dX0_count_168 rfl cE_HO 2 (by decide) q147 (fun _ h => h) hH.2.2.1 rfl ?_
        refine gw_callF (q := 176) (bc' := 1) (bs' := 4) (As := []) hc dX0_count_171 rfl cE_AL q232 mf_J2_size_7 rfl rfl (m_J2_size hLc) (rc_o hc cE_AL hLc) ⟨Nat.le_of_ble_eq_true rfl, Nat.le_of_ble_eq_true rfl⟩ (Nat.le_of_ble_eq_true rfl) (Nat.le_of_ble_eq_true rfl) (Nat.le_of_ble_eq_true rfl) (goI fun r171 G171 h171 => ?_)
        obtain ⟨er171, hgg⟩ := h171
        rw [hgg, er171]
        exact gw_iret hc dX0_count_176 ⟨_, rfl, ⟨by rw [w43]; rfl, tg, frE_rf, pl, sv, pd, h, A, hC⟩⟩
      · refine gw_tableIn (t := 177) hc dX0_count_43 (by omega) (by omega) (by rw [w43]; rfl) (by decide) ?_
        refine gw_aload_n (q := 178) hc dX0_count_177 rfl rfl xg_0 ?_
        refine gw_callV (q := 181) (bc' := 1) (bs' := 4) (As := []) hc dX0_count_178 rfl q938 mw_X0_loadsOn (rc_o hc cE_ED hC.1.1) rfl rfl (m_X0_loadsOn hC hW) ⟨Nat.le_of_ble_eq_true rfl, Nat.le_of_ble_eq_true rfl⟩ (Nat.le_of_ble_eq_true rfl) (Nat.le_of_ble_eq_true rfl) (Nat.le_of_ble_eq_true rfl) (goI fun r178 G178 h178 => ?_)
        obtain ⟨er178, hgg⟩ := h178
        rw [hgg, er178]
        exact gw_iret hc dX0_count_181 ⟨_, rfl, ⟨by rw [w43]; rfl, tg, frE_rf, pl, sv, pd, h, A, hC⟩⟩
      · refine gw_tableIn (t := 208) hc dX0_count_43 (by omega) (by omega) (by rw [w43]; rfl) (by decide) ?_
        refine gw_bipush (q := 210) hc dX0_count_208 rfl (by decide) ?_
        exact gw_iret hc dX0_count_210 ⟨_, rfl, ⟨by exfalso; omega, tg, frE_rf, pl, sv, pd, h, A, hC⟩⟩
      · refine gw_tableIn (t := 208) hc dX0_count_43 (by omega) (by omega) (by rw [w43]; rfl) (by decide) ?_
        refine gw_bipush (q := 210) hc dX0_count_208 rfl (by decide) ?_
        exact gw_iret hc dX0_count_210 ⟨_, rfl, ⟨by exfalso; omega, tg, frE_rf, pl, sv, pd, h, A, hC⟩⟩
      · refine gw_tableIn (t := 208) hc dX0_count_43 (by omega) (by omega) (by rw [w43]; rfl) (by decide) ?_
        refine gw_bipush (q := 210) hc dX0_count_208 rfl (by decide) ?_
        exact gw_iret hc dX0_count_210 ⟨_, rfl, ⟨by exfalso; omega, tg, frE_rf, pl, sv, pd, h, A, hC⟩⟩
      · refine gw_tableIn (t := 182) hc dX0_count_43 (by omega) (by omega) (by rw [w43]; rfl) (by decide) ?_
        refine gw_aload_n (q := 183) hc dX0_count_182 rfl rfl xg_0 ?_
        refine gw_get (q := 186) hc dX0_count_183 rfl cE_ED 0 (by decide) q198 (fun _ h => h) hC.1.1 rfl ?_
        refine gw_getN (q := 189) hc dX0_count_186 rfl cE_HO 4 (by decide) q151 (fun _ h => h) hH.2.2.1 rfl ?_
        exact gw_iret hc dX0_count_189 ⟨_, rfl, ⟨by rw [w43]; rfl, tg, frE_rf, pl, sv, pd, h, A, hC⟩⟩
      · refine gw_tableIn (t := 208) hc dX0_count_43 (by omega) (by omega) (by rw [w43]; rfl) (by decide) ?_
        refine gw_bipush (q := 210) hc dX0_count_208 rfl (by decide) ?_
        exact gw_iret hc dX0_count_210 ⟨_, rfl, ⟨by exfalso; omega, tg, frE_rf, pl, sv, pd, h, A, hC⟩⟩
      · refine gw_tableIn (t := 208) hc dX0_count_43 (by omega) (by omega) (by rw [w43]; rfl) (by decide) ?_
        refine gw_bipush (q := 210) hc dX0_count_208 rfl (by decide) ?_
        exact gw_iret hc dX0_count_210 ⟨_, rfl, ⟨by exfalso; omega, tg, frE_rf, pl, sv, pd, h, A, hC⟩⟩
      · refine gw_tableIn (t := 208) hc dX0_count_43 (by omega) (by omega) (by rw [w43]; rfl) (by decide) ?_
        refine gw_bipush (q := 210) hc dX0_count_208 rfl (by decide) ?_
        exact gw_iret hc dX0_count_210 ⟨_, rfl, ⟨by exfalso; omega, tg, frE_rf, pl, sv, pd, h, A, hC⟩⟩
      · refine gw_tableIn (t := 208) hc dX0_count_43 (by omega) (by omega) (by rw [w43]; rfl) (by decide) ?_
        refine gw_bipush (q := 210) hc dX0_count_208 rfl (by decide) ?_
        exact gw_iret hc dX0_count_210 ⟨_, rfl, ⟨by exfalso; omega, tg, frE_rf, pl, sv, pd, h, A, hC⟩⟩
      · refine gw_tableIn (t := 208) hc dX0_count_43 (by omega) (by omega) (by rw [w43]; rfl) (by decide) ?_
        refine gw_bipush (q := 210) hc dX0_count_208 rfl (by decide) ?_
        exact gw_iret hc dX0_count_210 ⟨_, rfl, ⟨by exfalso; omega, tg, frE_rf, pl, sv, pd, h, A, hC⟩⟩
      · refine gw_tableIn (t := 208) hc dX0_count_43 (by omega) (by omega) (by rw [w43]; rfl) (by decide) ?_
        refine gw_bipush (q := 210) hc dX0_count_208 rfl (by decide) ?_
        exact gw_iret hc dX0_count_210 ⟨_, rfl, ⟨by exfalso; omega, tg, frE_rf, pl, sv, pd, h, A, hC⟩⟩
      · refine gw_tableIn (t := 190) hc dX0_count_43 (by omega) (by omega) (by rw [w43]; rfl) (by decide) ?_
        refine gw_aload_n (q := 191) hc dX0_count_190 rfl rfl xg_0 ?_
        refine gw_get (q := 194) hc dX0_count_191 rfl cE_ED 3 (by decide) q202 (fun _ h => h) hC.1.1 rfl ?_
        refine gw_callV (q := 197) (bc' := 1) (bs' := 4) (As := []) hc dX0_count_194 rfl q856 mw_J4_length (rc_o hc cE_SB hG) rfl rfl (m_J4_length hG) ⟨Nat.le_of_ble_eq_true rfl, Nat.le_of_ble_eq_true rfl⟩ (Nat.le_of_ble_eq_true rfl) (Nat.le_of_ble_eq_true rfl) (Nat.le_of_ble_eq_true rfl) (goI fun r194 G194 h194 => ?_)
        obtain ⟨er194, hgg⟩ := h194
        rw [hgg, er194]
        exact gw_iret hc dX0_count_197 ⟨_, rfl, ⟨by rw [w43]; rfl, tg, frE_rf, pl, sv, pd, h, A, hC⟩⟩
      · refine gw_tableIn (t := 198) hc dX0_count_43 (by omega) (by omega) (by rw [w43]; rfl) (by decide) ?_
        refine gw_aload_n (q := 199) hc dX0_count_198 rfl rfl xg_0 ?_
        refine gw_get (q := 202) hc dX0_count_199 rfl cE_ED 1 (by decide) q199 (fun _ h => h) hC.1.1 rfl ?_
        refine gw_callF (q := 207) (bc' := 1) (bs' := 4) (As := []) hc dX0_count_202 rfl cE_AL q232 mf_J2_size_7 rfl rfl (m_J2_size hPc) (rc_o hc cE_AL hPc) ⟨Nat.le_of_ble_eq_true rfl, Nat.le_of_ble_eq_true rfl⟩ (Nat.le_of_ble_eq_true rfl) (Nat.le_of_ble_eq_true rfl) (Nat.le_of_ble_eq_true rfl) (goI fun r202 G202 h202 => ?_)
        obtain ⟨er202, hgg⟩ := h202
        rw [hgg, er202]
        exact gw_iret hc dX0_count_207 ⟨_, rfl, ⟨by rw [w43]; rfl, tg, frE_rf, pl, sv, pd, h, A, hC⟩⟩
      · refine gw_tableOut (t := 208) hc dX0_count_43 (by omega) (Or.inr w43) (by decide) ?_
        refine gw_bipush (q := 210) hc dX0_count_208 rfl (by decide) ?_
        exact gw_iret hc dX0_count_210 ⟨_, rfl, ⟨by unfold cntF; rw [if_neg (by omega), if_neg (by omega), if_neg (by omega), if_neg (by omega), if_neg (by omega), if_neg (by omega), if_neg (by omega), if_neg (by omega), if_neg (by omega), if_neg (by omega)], tg, frE_rf, pl, sv, pd, h, A, hC⟩⟩
    · skip
      refine gw_aload_n (q := 30) hc dX0_count_29 rfl rfl xg_0 ?_
      refine gw_get (q := 33) hc dX0_count_30 rfl cE_ED 0 (by decide) q198 (fun _ h => h) hC.1.1 rfl ?_
      refine gw_getN (q := 36) hc dX0_count_33 rfl cE_HO 0 (by decide) q143 (fun _ h => h) hH.2.2.1 rfl ?_
      refine gw_iload_n (q := 37) hc dX0_count_36 rfl rfl xg_1 ?_
      refine gw_bipush (q := 39) hc dX0_count_37 rfl (by decide) ?_
      refine gw_isub (q := 40) hc dX0_count_39 rfl ?_
      refine gw_iald (q := 41) hc dX0_count_40 rfl hgs ⟨by omega, by omega⟩ (by omega) ?_
      rw [hg (x - 9) (by omega) (by omega)]
      exact gw_iret hc dX0_count_41 ⟨_, rfl, ⟨by unfold cntF; rw [if_neg (by omega), if_neg (by omega), if_neg (by omega), if_neg (by omega), if_neg (by omega), if_neg (by omega), if_neg (by omega), if_neg (by omega), if_neg (by omega), if_pos (by omega)], tg, frE_rf, pl, sv, pd, h, A, hC⟩⟩
  · skip
    refine gw_aload_n (q := 11) hc dX0_count_10 rfl rfl xg_0 ?_
    refine gw_iload_n (q := 12) hc dX0_count_11 rfl rfl xg_1 ?_
    refine gw_iconst (q := 13) hc dX0_count_12 rfl ?_
    refine gw_isub (q := 14) hc dX0_count_13 rfl ?_
    refine gw_callV (q := 17) (bc' := 0) (bs' := 0) (As := [_]) hc dX0_count_14 rfl q926 mw_X0_all (rc_o hc cE_ED hC.1.1) rfl rfl (m_X0_all hC hW hn (by omega)) ⟨Nat.le_of_ble_eq_true rfl, Nat.le_of_ble_eq_true rfl⟩ (Nat.le_of_ble_eq_true rfl) (Nat.le_of_ble_eq_true rfl) (Nat.le_of_ble_eq_true rfl) (goI fun r14 G14 h14 => ?_)
    obtain ⟨er14, hed⟩ := h14
    rw [er14, cnt_al (ln := ln) (kn := kn) (by omega) hBl]
    exact gw_iret hc dX0_count_17 ⟨_, rfl, ⟨rfl, hed⟩⟩

set_option maxHeartbeats 4000000 in
theorem m_X0_lags {l : Launch} {D : va_G} {X : Nat → Nat} {b0 : Nat} {tg : Nat → Nat} {e nid pl sv pd : Nat} {h : Int → Nat} {A : Int → Nat → Nat} {S P L V Pd : Int → Int} {kn ln N : Int} {G : gM} (hC : edC D X tg e nid pl sv pd h A S P kn L V Pd ln G) (hW : rowW S N) (hn : nid < 890) {m : Int} (hm : rI m) : gMet l D X b0 yX0_lags cX0_lags 5 (some FieldType.int) (rmE 4 1 4) [.ref e, .int (iI m)] G (pI fun r G' => r = (if 0 ≤ m ∧ m < S 7 then lgS S m (S 7 - 1).toNat else -1) ∧ ∃ tg' : Nat → Nat, frE tg tg' G G' ∧ edR D X tg' e nid S P kn L V Pd ln G') := by
  refine gm_start (own := "EnergyDiscs") (lv := [some (.ref e), some (.int (iI m)), none, none, none]) (by decide +kernel) rfl (Nat.le_of_ble_eq_true rfl) rfl (fun p_ e_ s_ m_ args_ below_ meth_ c_ hc hnm => ?_)
  obtain ⟨hlt, W, hH⟩ := ed_H hC
  obtain ⟨mcm, arm, hmcm, hMc, hMa, -⟩ := alR_P hH.2.2.2.2.1
  obtain ⟨mcl, arl, hmcl, hLc, hLa, -⟩ := alR_P hH.2.2.2.2.2.1
  have hb := hH.1
  refine gw_aload_n (q := 1) hc dX0_lags_0 rfl rfl xg_0 ?_
  refine gw_iload_n (q := 2) hc dX0_lags_1 rfl rfl xg_1 ?_
  refine gw_callV (q := 5) (bc' := 1) (bs' := 4) (As := [_]) hc dX0_lags_2 rfl q548 mw_X0_isMeter (rc_o hc cE_ED hC.1.1) rfl rfl (m_X0_isMeter hC hm) ⟨Nat.le_of_ble_eq_true rfl, Nat.le_of_ble_eq_true rfl⟩ (Nat.le_of_ble_eq_true rfl) (Nat.le_of_ble_eq_true rfl) (Nat.le_of_ble_eq_true rfl) (goI fun r2 G2 h2 => ?_)
  obtain ⟨b2, hgg⟩ := h2
  rw [hgg]
  refine gw_if_ne  (q := 8) (t := 10) hc dX0_lags_5 rfl (by decide) (by omega) (fun c5 => ?_) (fun c5 => ?_)
  · obtain ⟨k, rfl⟩ : ∃ k : Nat, m = k := ⟨m.toNat, by omega⟩
    have hk7 : (k : Int) < S 7 := by omega
    obtain ⟨hmt, hfd, -⟩ := hH.2.2.2.2.2.2.1 k hk7
    obtain ⟨mcf, arf, hmcf, hFc, hFa, -⟩ := alR_P hfd
    have hcl := ch_len (S := S) (k := (k : Int)) (by omega)
    refine gw_ldcw (q := 13) hc dX0_lags_10 rfl (v := 10000000) q991 (by decide) ?_
    refine gw_aload_n (q := 14) hc dX0_lags_13 rfl rfl xg_0 ?_
    refine gw_iload_n (q := 15) hc dX0_lags_14 rfl rfl xg_1 ?_
    refine gw_callV (q := 18) (bc' := 1) (bs' := 4) (As := [_]) hc dX0_lags_15 rfl q599 mw_X0_meterAt (rc_o hc cE_ED hC.1.1) rfl rfl (m_X0_meterAt hC (by omega)) ⟨Nat.le_of_ble_eq_true rfl, Nat.le_of_ble_eq_true rfl⟩ (Nat.le_of_ble_eq_true rfl) (Nat.le_of_ble_eq_true rfl) (Nat.le_of_ble_eq_true rfl) (goA fun r15 G15 h15 => ?_)
    obtain ⟨er15, hgg⟩ := h15
    rw [hgg, er15]
    refine gw_callV (q := 21) (bc' := 1) (bs' := 4) (As := []) hc dX0_lags_18 rfl q936 mw_X3_turns (rc_o hc cE_ME hmt) rfl rfl (m_X3_turns hmt) ⟨Nat.le_of_ble_eq_true rfl, Nat.le_of_ble_eq_true rfl⟩ (Nat.le_of_ble_eq_true rfl) (Nat.le_of_ble_eq_true rfl) (Nat.le_of_ble_eq_true rfl) (goI fun r18 G18 h18 => ?_)
    obtain ⟨er18, hgg⟩ := h18
    rw [hgg, er18]
    refine gw_isub (q := 22) hc dX0_lags_21 rfl ?_
    refine gw_istore_n (q := 23) hc dX0_lags_22 rfl rfl xs_2 (by decide) (n2p xg_1 rfl) ?_
    refine gw_aload_n (q := 24) hc dX0_lags_23 rfl rfl xg_0 ?_
    refine gw_iload_n (q := 25) hc dX0_lags_24 rfl rfl xg_1 ?_
    refine gw_callV (q := 28) (bc' := 1) (bs' := 4) (As := [_]) hc dX0_lags_25 rfl q599 mw_X0_meterAt (rc_o hc cE_ED hC.1.1) rfl rfl (m_X0_meterAt hC (by omega)) ⟨Nat.le_of_ble_eq_true rfl, Nat.le_of_ble_eq_true rfl⟩ (Nat.le_of_ble_eq_true rfl) (Nat.le_of_ble_eq_true rfl) (Nat.le_of_ble_eq_true rfl) (goA fun r25 G25 h25 => ?_)
    obtain ⟨er25, hgg⟩ := h25
    rw [hgg, er25]
    refine gw_getN (q := 31) hc dX0_lags_28 rfl cE_ME 2 (by decide) q416 (fun _ h => h) hmt rfl ?_
    refine gw_callF (q := 36) (bc' := 0) (bs' := 0) (As := []) hc dX0_lags_31 rfl cE_AL q931 mf_J2_iterator_7 rfl rfl (m_J2_iterator hFc) (rc_o hc cE_AL hFc) ⟨Nat.le_of_ble_eq_true rfl, Nat.le_of_ble_eq_true rfl⟩ (Nat.le_of_ble_eq_true rfl) (Nat.le_of_ble_eq_true rfl) (Nat.le_of_ble_eq_true rfl) (goA fun r31 G31 h31 => ?_)
    obtain ⟨hni, hgg⟩ := h31
    rw [hgg]
    have htn : ∀ {f : va_E}, G r31 = none → (99800 / 100 = 998 ∨ 998 ≤ 99800 / 100) → tgR tg (fun q => if q = r31 then 99800 else tg q) 998 G (gup G r31 f) := fun a b => tgR_new a b
    refine gw_astore_n (q := 37) hc dX0_lags_36 rfl rfl xs_3 (by decide) (n2p xg_2 rfl) ?_
    refine gw_lv (show _ = [some (.ref e), some (.int (iI (k : Int))), some (.int (iI (10000000 - tnF S k + smL (fun c => tnF S (c : Int)) ((chL S k).take 0)))), some (.ref r31), none] from by rw [show 10000000 - tnF S k + smL (fun c => tnF S (c : Int)) ((chL S k).take 0) = 10000000 - tnF S k from Int.add_zero _]; rfl) ?_
    refine gw_loop (σ := Nat × Int) (fun x => x.1 ≤ (chL S k).length) (fun x => 7 - x.1) (fun x => gup G r31 (oE 9 [.int (iI (x.1 : Int)), .int (iI x.2), .int (iI mcf), .ref (A (-1) (20 + k))])) (fun x => [some (.ref e), some (.int (iI (k : Int))), some (.int (iI (10000000 - tnF S k + smL (fun c => tnF S (c : Int)) ((chL S k).take x.1)))), some (.ref r31), none]) ?_ (0, -1) (by dsimp only; omega)
    rintro ⟨i, lr⟩ hI37 ih37
    try dsimp only at hI37 ⊢
    have hMc1 := gup_k (e' := oE 9 [.int (iI (i : Int)), .int (iI lr), .int (iI mcf), .ref (A (-1) (20 + k))]) hFc hni
    have hMa1 := alP_x (G' := gup G r31 (oE 9 [.int (iI (i : Int)), .int (iI lr), .int (iI mcf), .ref (A (-1) (20 + k))])) hFa (fun f hf => gup_k hf hni)
    refine gw_aload_n (q := 38) hc dX0_lags_37 rfl rfl xg_3 ?_
    refine gw_callF (q := 43) (bc' := 0) (bs' := 0) (As := []) hc dX0_lags_38 rfl cE_IT q933 mf_J9_hasNext_9 rfl rfl (m_J9_hasNext hMc1 gup_s ⟨⟨by omega, by omega⟩, ⟨by omega, by omega⟩⟩) (rc_o hc cE_IT gup_s) ⟨Nat.le_of_ble_eq_true rfl, Nat.le_of_ble_eq_true rfl⟩ (Nat.le_of_ble_eq_true rfl) (Nat.le_of_ble_eq_true rfl) (Nat.le_of_ble_eq_true rfl) (goI fun r38 G38 h38 => ?_)
    obtain ⟨b38, hgg⟩ := h38
    rw [hgg]
    refine gw_if_eq  (q := 46) (t := 68) hc dX0_lags_43 rfl (by decide) (by omega) (fun c43 => ?_) (fun c43 => ?_)
    · skip
      refine gw_iload_n (q := 69) hc dX0_lags_68 rfl rfl xg_2 ?_
      exact gw_iret hc dX0_lags_69 ⟨_, rfl, ⟨by rw [if_pos (by omega), lg_ch (by omega), show i = (chL S k).length by omega, List.take_length], _, frE_of (htn hni (Or.inr (by omega))) (by omega), pl, sv, pd, h, A, ed_oth hC (htn hni (Or.inr (by omega))) ⟨by omega, by omega, by omega⟩ (by omega)⟩⟩
    · skip
      refine gw_aload_n (q := 47) hc dX0_lags_46 rfl rfl xg_3 ?_
      refine gw_callF (q := 52) (bc' := 0) (bs' := 0) (As := []) hc dX0_lags_47 rfl cE_IT q935 mf_J9_next_9 rfl rfl (m_J9_next hMc1 gup_s hmcf hMa1 ⟨by omega, by omega⟩) (rc_o hc cE_IT gup_s) ⟨Nat.le_of_ble_eq_true rfl, Nat.le_of_ble_eq_true rfl⟩ (Nat.le_of_ble_eq_true rfl) (Nat.le_of_ble_eq_true rfl) (Nat.le_of_ble_eq_true rfl) (goA fun r47 G47 h47 => ?_)
      obtain ⟨er47, hgg⟩ := h47
      have hmem := ch_mem.mp (gd_mem (L := chL S k) (i := i) (by omega))
      obtain ⟨c, hcc⟩ : ∃ c : Nat, c = (chL S k).getD i 0 := ⟨_, rfl⟩
      have er47b : r47 = A (-1) (10 + c) := by rw [er47, hcc]; show A (-1) (10 + (chL S k).getD (i : Int).toNat 0) = _; rw [Int.toNat_natCast]
      rw [hgg, er47b]
      refine gw_G gup_gup ?_
      rw [← hcc] at hmem
      have hmt2 := gup_k (e' := oE 9 [.int (iI ((i : Int) + 1)), .int (iI (i : Int)), .int (iI mcf), .ref (A (-1) (20 + k))]) (hH.2.2.2.2.2.2.1 c hmem.1).1 hni
      refine gw_cast (q := 55) hc dX0_lags_52 rfl q603 (rc_o hc cE_ME hmt2) ?_
      refine gw_astore (q := 57) hc dX0_lags_55 rfl xs_4 (by decide) (n2p xg_3 rfl) ?_
      refine gw_iload_n (q := 58) hc dX0_lags_57 rfl rfl xg_2 ?_
      refine gw_aload (q := 60) hc dX0_lags_58 rfl xg_4 ?_
      refine gw_callV (q := 63) (bc' := 0) (bs' := 0) (As := []) hc dX0_lags_60 rfl q936 mw_X3_turns (rc_o hc cE_ME hmt2) rfl rfl (m_X3_turns hmt2) ⟨Nat.le_of_ble_eq_true rfl, Nat.le_of_ble_eq_true rfl⟩ (Nat.le_of_ble_eq_true rfl) (Nat.le_of_ble_eq_true rfl) (Nat.le_of_ble_eq_true rfl) (goI fun r60 G60 h60 => ?_)
      obtain ⟨er60, hgg⟩ := h60
      rw [hgg, er60]
      refine gw_iadd (q := 64) hc dX0_lags_63 rfl ?_
      rw [show 10000000 - tnF S k + smL (fun c => tnF S (c : Int)) ((chL S k).take i) + (S (11 + 13 * (c : Int) + 3) + S (11 + 13 * (c : Int) + 4)) = 10000000 - tnF S k + smL (fun c => tnF S (c : Int)) ((chL S k).take (i + 1)) from by rw [smL_take (by omega), ← hcc]; show _ = 10000000 - tnF S k + (_ + (S (11 + 13 * (c : Int) + 3) + S (11 + 13 * (c : Int) + 4))); omega]
      refine gw_istore_n (q := 65) hc dX0_lags_64 rfl rfl xs_2 (by decide) (n2p xg_1 rfl) ?_
      refine gw_goto (q := 37) hc dX0_lags_65 (by decide) ?_
      refine gw_drop (i := 4) xs_4 ?_
      exact ih37 (i + 1, (i : Int)) (by dsimp only; omega) (by dsimp only; omega)
  · skip
    refine gw_iconst (q := 9) hc dX0_lags_8 rfl ?_
    exact gw_iret hc dX0_lags_9 ⟨_, rfl, ⟨by rw [if_neg (by omega)], tg, frE_rf, pl, sv, pd, h, A, hC⟩⟩

set_option maxHeartbeats 4000000 in
theorem m_X0_undo {l : Launch} {D : va_G} {X : Nat → Nat} {b0 : Nat} {tg : Nat → Nat} {e nid pl sv pd : Nat} {h : Int → Nat} {A : Int → Nat → Nat} {S P L V Pd : Int → Int} {kn ln : Int} {G : gM} (hC : edC D X tg e nid pl sv pd h A S P kn L V Pd ln G) (hn : nid < 890) : gMet l D X b0 yX0_undo cX0_undo 1 (some FieldType.int) (rmE 3 0 0) [.ref e] G (pI fun r G' => (kn = 0 ∧ r = -5 ∧ G' = G) ∨ (kn ≠ 0 ∧ r = kn - 1 ∧ ∃ tg' : Nat → Nat, frE tg tg' G G' ∧ edR D X tg' e nid (fun i => P (138 * (kn - 1) + i)) P (kn - 1) L V Pd ln G')) := by
  refine gm_start (own := "EnergyDiscs") (lv := [some (.ref e)]) (by decide +kernel) rfl (Nat.le_of_ble_eq_true rfl) rfl (fun p_ e_ s_ m_ args_ below_ meth_ c_ hc hnm => ?_)
  obtain ⟨hlt, W, hH⟩ := ed_H hC
  obtain ⟨mcm, arm, hmcm, hMc, hMa, -⟩ := alR_P hH.2.2.2.2.1
  obtain ⟨mcl, arl, hmcl, hLc, hLa, -⟩ := alR_P hH.2.2.2.2.2.1
  have hb := hH.1
  have hkn := hC.2.2.2.1
  obtain ⟨mcp, arp, hmcp, hPc, hPa, harp⟩ := alR_P hC.2.2.2.2.1
  refine gw_x0 hc (fun hX0 => ?_)
  have hob : obL G 1 kn (fun i => A i 0) := fun i a b => by
    obtain ⟨-, W9, h9⟩ := hC.2.1 i (Or.inr (Or.inl ⟨a, b⟩))
    exact ⟨_, h9.2.2.1⟩
  refine gw_aload_n (q := 1) hc dX0_undo_0 rfl rfl xg_0 ?_
  refine gw_get (q := 4) hc dX0_undo_1 rfl cE_ED 1 (by decide) q199 (fun _ h => h) hC.1.1 rfl ?_
  refine gw_callF (q := 9) (bc' := 0) (bs' := 0) (As := []) hc dX0_undo_4 rfl cE_AL q540 mf_J2_isEmpty_7 rfl rfl (m_J2_isEmpty hPc (by omega)) (rc_o hc cE_AL hPc) ⟨Nat.le_of_ble_eq_true rfl, Nat.le_of_ble_eq_true rfl⟩ (Nat.le_of_ble_eq_true rfl) (Nat.le_of_ble_eq_true rfl) (Nat.le_of_ble_eq_true rfl) (goI fun r4 G4 h4 => ?_)
  obtain ⟨b4, hgg⟩ := h4
  rw [hgg]
  refine gw_if_eq  (q := 12) (t := 15) hc dX0_undo_9 rfl (by decide) (by omega) (fun c9 => ?_) (fun c9 => ?_)
  · obtain ⟨cap, f, hPA, hPf, hPb⟩ := alP_arr hPa (by omega)
    refine gw_aload_n (q := 16) hc dX0_undo_15 rfl rfl xg_0 ?_
    refine gw_aload_n (q := 17) hc dX0_undo_16 rfl rfl xg_0 ?_
    refine gw_get (q := 20) hc dX0_undo_17 rfl cE_ED 1 (by decide) q199 (fun _ h => h) hC.1.1 rfl ?_
    refine gw_aload_n (q := 21) hc dX0_undo_20 rfl rfl xg_0 ?_
    refine gw_get (q := 24) hc dX0_undo_21 rfl cE_ED 1 (by decide) q199 (fun _ h => h) hC.1.1 rfl ?_
    refine gw_callF (q := 29) (bc' := 0) (bs' := 0) (As := []) hc dX0_undo_24 rfl cE_AL q232 mf_J2_size_7 rfl rfl (m_J2_size hPc) (rc_o hc cE_AL hPc) ⟨Nat.le_of_ble_eq_true rfl, Nat.le_of_ble_eq_true rfl⟩ (Nat.le_of_ble_eq_true rfl) (Nat.le_of_ble_eq_true rfl) (Nat.le_of_ble_eq_true rfl) (goI fun r24 G24 h24 => ?_)
    obtain ⟨er24, hgg⟩ := h24
    rw [hgg, er24]
    refine gw_iconst (q := 30) hc dX0_undo_29 rfl ?_
    refine gw_isub (q := 31) hc dX0_undo_30 rfl ?_
    refine gw_callF (q := 36) (bc' := 0) (bs' := 0) (As := [_]) hc dX0_undo_31 rfl cE_AL q242 mf_J2_remove_7 rfl rfl (m_J2_remove cE_HO q1550 hob hPc hPA hPf hPb (by omega)) (rc_o hc cE_AL hPc) ⟨Nat.le_of_ble_eq_true rfl, Nat.le_of_ble_eq_true rfl⟩ (Nat.le_of_ble_eq_true rfl) (Nat.le_of_ble_eq_true rfl) (Nat.le_of_ble_eq_true rfl) (goA fun r31 G31 h31 => ?_)
    obtain ⟨er31, f2, hf2, hG31⟩ := h31
    have hu : edU kn V (kn - 1) := Or.inr (Or.inl ⟨by omega, by omega⟩)
    obtain ⟨hlk, Wk, hHk⟩ := hC.2.1 _ hu
    have hpp : tg arp = 99502 := by rcases harp with q | q; (rw [q, hX0] at hPA; cases hPA); exact q
    have hcap : G arp ≠ none ∧ kn ≤ cap ∧ cap ≤ 1000 ∧ arp ≠ pl := ⟨nn_s hPA, by omega, by omega, fun z => by rw [z, hPc] at hPA; cases hPA⟩
    obtain ⟨-, ho, -⟩ := ed_cut hC (by omega) hPc hpp hcap hf2 hG31
    have hme := ho _ _ hC.1.1 (by have := hC.1.2.1; omega) (by have := hC.1.2.1; omega)
    have hhb := ho _ _ hHk.2.2.1 (by have := hHk.2.1 0 us_0; omega) (by have := hHk.2.1 0 us_0; omega)
    rw [er31]
    refine gw_cast (q := 39) hc dX0_undo_36 rfl q106 (rc_o hc cE_HO hhb) ?_
    refine gw_put (q := 42) hc dX0_undo_39 rfl cE_ED 0 (by decide) q198 (fun _ h => h) rfl hme ⟨rfl, rfl⟩ rfl (Nat.le_of_ble_eq_true rfl) ?_
    obtain ⟨ht5, hC5⟩ := ed_pop hC (by omega) (by omega) hPc hpp hcap hf2 hG31
    obtain ⟨mcq, arq, hmcq, hQc, hQa, harq⟩ := alR_P hC5.2.2.2.2.1
    refine gw_aload_n (q := 43) hc dX0_undo_42 rfl rfl xg_0 ?_
    refine gw_get (q := 46) hc dX0_undo_43 rfl cE_ED 1 (by decide) q199 (fun _ h => h) (by have hq := hC5.1.1; rw [fu_s] at hq; exact hq) rfl ?_
    refine gw_callF (q := 51) (bc' := 0) (bs' := 0) (As := []) hc dX0_undo_46 rfl cE_AL q232 mf_J2_size_7 rfl rfl (m_J2_size hQc) (rc_o hc cE_AL hQc) ⟨Nat.le_of_ble_eq_true rfl, Nat.le_of_ble_eq_true rfl⟩ (Nat.le_of_ble_eq_true rfl) (Nat.le_of_ble_eq_true rfl) (Nat.le_of_ble_eq_true rfl) (goI fun r46 G46 h46 => ?_)
    obtain ⟨er46, hgg⟩ := h46
    rw [hgg, er46]
    exact gw_iret hc dX0_undo_51 ⟨_, rfl, Or.inr ⟨by omega, rfl, tg, frE_of ht5 (by omega), pl, sv, pd, _, _, hC5⟩⟩
  · skip
    refine gw_bipush (q := 14) hc dX0_undo_12 rfl (by decide) ?_
    exact gw_iret hc dX0_undo_14 ⟨_, rfl, Or.inl ⟨by omega, rfl, rfl⟩⟩

set_option maxHeartbeats 4000000 in
theorem m_X0_save {l : Launch} {D : va_G} {X : Nat → Nat} {b0 : Nat} {tg : Nat → Nat} {e nid pl sv pd : Nat} {h : Int → Nat} {A : Int → Nat → Nat} {S P L V Pd : Int → Int} {kn ln N : Int} {G : gM} (hC : edC D X tg e nid pl sv pd h A S P kn L V Pd ln G) (hW : rowW S N) (hn : nid < 890) {i : Int} (hi : rI i) : gMet l D X b0 yX0_save cX0_save 2 (some FieldType.int) (rmE 10 79 2660) [.ref e, .int (iI i)] G (pI fun r G' => (¬ (0 ≤ i ∧ i ≤ 1) ∧ r = -2 ∧ G' = G) ∨ ((0 ≤ i ∧ i ≤ 1) ∧ r = S 7 ∧ ∃ tg' : Nat → Nat, frE tg tg' G G' ∧ edR D X tg' e (nid + 1) S P kn (svF S L i) (fu V i 1) Pd ln G')) := by
  refine gm_start (own := "EnergyDiscs") (lv := [some (.ref e), some (.int (iI i))]) (by decide +kernel) rfl (Nat.le_of_ble_eq_true rfl) rfl (fun p_ e_ s_ m_ args_ below_ meth_ c_ hc hnm => ?_)
  obtain ⟨hlt, W, hH⟩ := ed_H hC
  obtain ⟨mcm, arm, hmcm, hMc, hMa, -⟩ := alR_P hH.2.2.2.2.1
  obtain ⟨mcl, arl, hmcl, hLc, hLa, -⟩ := alR_P hH.2.2.2.2.2.1
  have hb := hH.1
  obtain ⟨fs0, hsv0, hfs0⟩ := hC.2.2.2.2.2.1
  refine gw_iload_n (q := 1) hc dX0_save_0 rfl rfl xg_1 ?_
  refine gw_iconst (q := 2) hc dX0_save_1 rfl ?_
  refine gw_iconst (q := 3) hc dX0_save_2 rfl ?_
  refine gw_callS (q := 6) (bc' := 79) (bs' := 2660) (As := [_, _, _]) hc dX0_save_3 rfl q216 mw_X0_isIn rfl rfl (m_X0_isIn hi (by omega) (by omega)) ⟨Nat.le_of_ble_eq_true rfl, Nat.le_of_ble_eq_true rfl⟩ (Nat.le_of_ble_eq_true rfl) (Nat.le_of_ble_eq_true rfl) (Nat.le_of_ble_eq_true rfl) (goI fun r3 G3 h3 => ?_)
  obtain ⟨b3, hgg⟩ := h3
  rw [hgg]
  refine gw_if_ne  (q := 9) (t := 12) hc dX0_save_6 rfl (by decide) (by omega) (fun c6 => ?_) (fun c6 => ?_)
  · skip
    refine gw_aload_n (q := 13) hc dX0_save_12 rfl rfl xg_0 ?_
    refine gw_get (q := 16) hc dX0_save_13 rfl cE_ED 2 (by decide) q200 (fun _ h => h) hC.1.1 rfl ?_
    refine gw_iload_n (q := 17) hc dX0_save_16 rfl rfl xg_1 ?_
    refine gw_aload_n (q := 18) hc dX0_save_17 rfl rfl xg_0 ?_
    refine gw_get (q := 21) hc dX0_save_18 rfl cE_ED 0 (by decide) q198 (fun _ h => h) hC.1.1 rfl ?_
    refine gw_callV (q := 24) (bc' := 0) (bs' := 0) (As := []) hc dX0_save_21 rfl q263 mw_X1_copy (rc_o hc cE_HO hH.2.2.1) rfl rfl (m_X1_copy hH hW.1.1 hW.1.2.1 hW.2.2.1 (rw_b hW) (by omega) (by omega) (nid := nid) (by omega)) ⟨Nat.le_of_ble_eq_true rfl, Nat.le_of_ble_eq_true rfl⟩ (Nat.le_of_ble_eq_true rfl) (Nat.le_of_ble_eq_true rfl) (Nat.le_of_ble_eq_true rfl) (goA fun r21 G21 h21 => ?_)
    obtain ⟨tgB, B, WB, er21, htB, hHB⟩ := h21
    rw [er21]
    have hCB := ed_oth hC htB (by omega) (by omega)
    obtain ⟨fs, hsv, hfs⟩ := hCB.2.2.2.2.2.1
    have hHs := hs_tg hH htB (by omega) (by omega)
    obtain ⟨mcr, arr2, hmcr, hRc, -, -⟩ := alR_P hHs.2.2.2.2.1
    refine gw_hast (q := 25) hc dX0_save_24 rfl hsv ⟨by omega, by omega⟩ (by omega) cE_HO hHB.2.2.1 ?_
    obtain ⟨ht5, hC5⟩ := ed_sav (L' := svF S L i) hCB (by omega) hHB (by omega) hsv svF_1 svF_2
    have hHs5 := hs_tg hHs ht5 (by omega) (by omega)
    have hme5 := hC5.1.1
    rw [fu_n (by omega)] at hme5
    obtain ⟨mct, art, hmct, hTc, -, -⟩ := alR_P hHs5.2.2.2.2.1
    refine gw_aload_n (q := 26) hc dX0_save_25 rfl rfl xg_0 ?_
    refine gw_get (q := 29) hc dX0_save_26 rfl cE_ED 0 (by decide) q198 (fun _ h => h) hme5 rfl ?_
    refine gw_getN (q := 32) hc dX0_save_29 rfl cE_HO 1 (by decide) q145 (fun _ h => h) hHs5.2.2.1 rfl ?_
    refine gw_callF (q := 37) (bc' := 0) (bs' := 0) (As := []) hc dX0_save_32 rfl cE_AL q232 mf_J2_size_7 rfl rfl (m_J2_size hTc) (rc_o hc cE_AL hTc) ⟨Nat.le_of_ble_eq_true rfl, Nat.le_of_ble_eq_true rfl⟩ (Nat.le_of_ble_eq_true rfl) (Nat.le_of_ble_eq_true rfl) (Nat.le_of_ble_eq_true rfl) (goI fun r32 G32 h32 => ?_)
    obtain ⟨er32, hgg⟩ := h32
    rw [hgg, er32]
    exact gw_iret hc dX0_save_37 ⟨_, rfl, Or.inr ⟨by omega, rfl, tgB, frE_tr (frE_of htB (by omega)) (frE_of ht5 (by omega)), pl, sv, pd, _, _, hC5⟩⟩
  · skip
    refine gw_bipush (q := 11) hc dX0_save_9 rfl (by decide) ?_
    exact gw_iret hc dX0_save_11 ⟨_, rfl, Or.inl ⟨by omega, rfl, rfl⟩⟩

set_option maxHeartbeats 4000000 in
theorem m_X0_restore {l : Launch} {D : va_G} {X : Nat → Nat} {b0 : Nat} {tg : Nat → Nat} {e nid pl sv pd : Nat} {h : Int → Nat} {A : Int → Nat → Nat} {S P L V Pd : Int → Int} {kn ln N : Int} {G : gM} (hC : edC D X tg e nid pl sv pd h A S P kn L V Pd ln G) (hW : rowW S N) (hn : nid < 890) {i : Int} (hi : rI i) (hV : ∀ i, 0 ≤ i → i ≤ 1 → V i = 0 ∨ V i = 1) (hWL : ∀ i, 0 ≤ i → i ≤ 1 → V i = 1 → rowW (fun j => L (138 * i + j)) N) : gMet l D X b0 yX0_restore cX0_restore 2 (some FieldType.int) (rmE 11 159 5390) [.ref e, .int (iI i)] G (pI fun r G' => (¬ (0 ≤ i ∧ i ≤ 1) ∧ r = -2 ∧ G' = G) ∨ ((0 ≤ i ∧ i ≤ 1) ∧ V i = 0 ∧ r = -5 ∧ G' = G) ∨ ((0 ≤ i ∧ i ≤ 1) ∧ V i = 1 ∧ r = L (138 * i + 7) ∧ ∃ tg' : Nat → Nat, frE tg tg' G G' ∧ edR D X tg' e (nid + 2) (fun j => L (138 * i + j)) (rmF S P kn) (rmK kn) L V Pd ln G')) := by
  refine gm_start (own := "EnergyDiscs") (lv := [some (.ref e), some (.int (iI i))]) (by decide +kernel) rfl (Nat.le_of_ble_eq_true rfl) rfl (fun p_ e_ s_ m_ args_ below_ meth_ c_ hc hnm => ?_)
  obtain ⟨hlt, W, hH⟩ := ed_H hC
  obtain ⟨mcm, arm, hmcm, hMc, hMa, -⟩ := alR_P hH.2.2.2.2.1
  obtain ⟨mcl, arl, hmcl, hLc, hLa, -⟩ := alR_P hH.2.2.2.2.2.1
  have hb := hH.1
  obtain ⟨fs0, hsv0, hfs0⟩ := hC.2.2.2.2.2.1
  refine gw_iload_n (q := 1) hc dX0_restore_0 rfl rfl xg_1 ?_
  refine gw_iconst (q := 2) hc dX0_restore_1 rfl ?_
  refine gw_iconst (q := 3) hc dX0_restore_2 rfl ?_
  refine gw_callS (q := 6) (bc' := 159) (bs' := 5390) (As := [_, _, _]) hc dX0_restore_3 rfl q216 mw_X0_isIn rfl rfl (m_X0_isIn hi (by omega) (by omega)) ⟨Nat.le_of_ble_eq_true rfl, Nat.le_of_ble_eq_true rfl⟩ (Nat.le_of_ble_eq_true rfl) (Nat.le_of_ble_eq_true rfl) (Nat.le_of_ble_eq_true rfl) (goI fun r3 G3 h3 => ?_)
  obtain ⟨b3, hgg⟩ := h3
  rw [hgg]
  refine gw_if_ne  (q := 9) (t := 12) hc dX0_restore_6 rfl (by decide) (by omega) (fun c6 => ?_) (fun c6 => ?_)
  · skip
    refine gw_aload_n (q := 13) hc dX0_restore_12 rfl rfl xg_0 ?_
    refine gw_get (q := 16) hc dX0_restore_13 rfl cE_ED 2 (by decide) q200 (fun _ h => h) hC.1.1 rfl ?_
    refine gw_iload_n (q := 17) hc dX0_restore_16 rfl rfl xg_1 ?_
    rcases hV i (by omega) (by omega) with hv | hv
    · have hfi := hfs0 i (by omega) (by omega)
      rw [if_neg (by omega)] at hfi
      refine gw_hald (q := 18) hc dX0_restore_17 rfl hsv0 ⟨by omega, by omega⟩ (by omega) ?_
      rw [hfi]
      refine gw_ifnonnullN (q := 21) hc dX0_restore_18 rfl ?_
      refine gw_bipush (q := 23) hc dX0_restore_21 rfl (by decide) ?_
      exact gw_iret hc dX0_restore_23 ⟨_, rfl, Or.inr (Or.inl ⟨by omega, hv, rfl, rfl⟩)⟩
    · have hfi := hfs0 i (by omega) (by omega)
      rw [if_pos hv] at hfi
      refine gw_hald (q := 18) hc dX0_restore_17 rfl hsv0 ⟨by omega, by omega⟩ (by omega) ?_
      rw [hfi]
      refine gw_ifnonnull (t := 24) hc dX0_restore_18 (by decide) ?_
      refine gw_aload_n (q := 25) hc dX0_restore_24 rfl rfl xg_0 ?_
      refine gw_callV (q := 28) (bc' := 79) (bs' := 2660) (As := []) hc dX0_restore_25 rfl q227 mw_X0_record (rc_o hc cE_ED hC.1.1) rfl rfl (m_X0_record hC hW (by omega)) ⟨Nat.le_of_ble_eq_true rfl, Nat.le_of_ble_eq_true rfl⟩ (Nat.le_of_ble_eq_true rfl) (Nat.le_of_ble_eq_true rfl) (Nat.le_of_ble_eq_true rfl) (goV fun G25 h25 => ?_)
      obtain ⟨tg1, hf1, h2, A2, hC2⟩ := h25
      obtain ⟨fs, hsv, hfs⟩ := hC2.2.2.2.2.2.1
      have hfi2 := hfs i (by omega) (by omega)
      rw [if_pos hv] at hfi2
      have hui : edU (rmK kn) V (100 + i) := by
          unfold edU
          rcases (by omega : i = 0 ∨ i = 1) with rfl | rfl
          · exact Or.inr (Or.inr (Or.inl ⟨by omega, hv⟩))
          · exact Or.inr (Or.inr (Or.inr ⟨by omega, hv⟩))
      obtain ⟨hls, Ws, hHs0⟩ := hC2.2.1 _ hui
      have eW : edW S (rmF S P kn) L (100 + i) = fun j => L (138 * i + j) := by unfold edW; rw [if_neg (by omega), if_neg (by omega), show 100 + i - 100 = i by omega]
      rw [eW] at hHs0
      have hWs := hWL i (by omega) (by omega) hv
      refine gw_aload_n (q := 29) hc dX0_restore_28 rfl rfl xg_0 ?_
      refine gw_aload_n (q := 30) hc dX0_restore_29 rfl rfl xg_0 ?_
      refine gw_get (q := 33) hc dX0_restore_30 rfl cE_ED 2 (by decide) q200 (fun _ h => h) hC2.1.1 rfl ?_
      refine gw_iload_n (q := 34) hc dX0_restore_33 rfl rfl xg_1 ?_
      refine gw_hald (q := 35) hc dX0_restore_34 rfl hsv ⟨by omega, by omega⟩ (by omega) ?_
      rw [hfi2]
      refine gw_callV (q := 38) (bc' := 0) (bs' := 0) (As := []) hc dX0_restore_35 rfl q263 mw_X1_copy (rc_o hc cE_HO hHs0.2.2.1) rfl rfl (m_X1_copy hHs0 hWs.1.1 hWs.1.2.1 hWs.2.2.1 (rw_b hWs) (by omega) (by omega) (nid := nid + 1) (by omega)) ⟨Nat.le_of_ble_eq_true rfl, Nat.le_of_ble_eq_true rfl⟩ (Nat.le_of_ble_eq_true rfl) (Nat.le_of_ble_eq_true rfl) (Nat.le_of_ble_eq_true rfl) (goA fun r35 G35 h35 => ?_)
      obtain ⟨tgB, B, WB, er35, htB, hHB⟩ := h35
      rw [er35]
      have hCB := ed_oth hC2 htB (by omega) (by omega)
      refine gw_put (q := 41) hc dX0_restore_38 rfl cE_ED 0 (by decide) q198 (fun _ h => h) rfl hCB.1.1 ⟨rfl, rfl⟩ rfl (Nat.le_of_ble_eq_true rfl) ?_
      obtain ⟨ht5, hC5⟩ := ed_res hCB hHB (by omega)
      have hH5 := (ed_H hC5).2
      rw [fu_s, fu_s] at hH5
      obtain ⟨W5, hH5⟩ := hH5
      have hme5 := hC5.1.1
      rw [fu_s] at hme5
      obtain ⟨mct, art, hmct, hTc, -, -⟩ := alR_P hH5.2.2.2.2.1
      refine gw_aload_n (q := 42) hc dX0_restore_41 rfl rfl xg_0 ?_
      refine gw_get (q := 45) hc dX0_restore_42 rfl cE_ED 0 (by decide) q198 (fun _ h => h) hme5 rfl ?_
      refine gw_getN (q := 48) hc dX0_restore_45 rfl cE_HO 1 (by decide) q145 (fun _ h => h) hH5.2.2.1 rfl ?_
      refine gw_callF (q := 53) (bc' := 0) (bs' := 0) (As := []) hc dX0_restore_48 rfl cE_AL q232 mf_J2_size_7 rfl rfl (m_J2_size hTc) (rc_o hc cE_AL hTc) ⟨Nat.le_of_ble_eq_true rfl, Nat.le_of_ble_eq_true rfl⟩ (Nat.le_of_ble_eq_true rfl) (Nat.le_of_ble_eq_true rfl) (Nat.le_of_ble_eq_true rfl) (goI fun r48 G48 h48 => ?_)
      obtain ⟨er48, hgg⟩ := h48
      rw [hgg, er48]
      exact gw_iret hc dX0_restore_53 ⟨_, rfl, Or.inr (Or.inr ⟨by omega, hv, rfl, tgB, frE_tr hf1 (frE_tr (frE_of htB (by omega)) (frE_of ht5 (by omega))), pl, sv, pd, _, _, hC5⟩)⟩
  · skip
    refine gw_bipush (q := 11) hc dX0_restore_9 rfl (by decide) ?_
    exact gw_iret hc dX0_restore_11 ⟨_, rfl, Or.inl ⟨by omega, rfl, rfl⟩⟩

