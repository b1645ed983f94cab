/-! ===== THE CLASS: a meter fed by another into a house ===== -/
set_option maxRecDepth 100000
theorem adP_el {D : va_G} {G G' : gM} {a ar : Nat} {mc n : Int} {el el' : Int → Nat} {b : Nat} (h : adP D G a ar mc n el b G') (he : ∀ i, 0 ≤ i → i < n → el' i = el i) : adP D G a ar mc n el' b G' := by
  obtain ⟨ar', cap', f', h1, h2, h3, h4⟩ := h
  refine ⟨ar', cap', f', fun i a c => ?_, h2, h3, h4⟩
  rw [h1 i a c]
  by_cases e : i < n + 1
  · rw [if_pos e, if_pos e]
    by_cases k : i = n
    · rw [k, fu_s, fu_s]
    · rw [fu_n k, fu_n k, he i a (by omega)]
  · rw [if_neg e, if_neg e]
theorem adP_nn {D : va_G} {G G' : gM} {a ar : Nat} {mc n : Int} {el : Int → Nat} {b q : Nat} (h : adP D G a ar mc n el b G') (hq : G' q = none) : G q = none := by
  obtain ⟨ar', cap', f', h1, h2, h3, rfl⟩ := h
  exact Classical.byContradiction fun z => gup_nn (gup_nn z) hq

set_option maxHeartbeats 4000000 in
theorem m_X1_add {l : Launch} {D : va_G} {X : Nat → Nat} {b0 : Nat} {tg : Nat → Nat} {hid : Nat} {A : Nat → Nat} {S W : Int → Int} {G : gM} (hH : hsR D X tg hid A S W G) (hT : treeW S) (hL : loadW S) {S' : Int → Int} {k tt : Nat} (hk : S 7 = k) (hk7 : k < 7) (hh : hid < 999) (hS7 : S' 7 = S 7 + 1) (hS : ∀ i, 0 ≤ i → i < 138 → i ≠ 7 → i ≠ 9 → (i < 11 + 13 * (k : Int) ∨ 11 + 13 * (k : Int) + 13 ≤ i) → S' i = S i) (hN : ∀ j, 1 ≤ j → j ≤ 12 → S' (11 + 13 * (k : Int) + j) = if j = 2 then 100 else 0) (htt : tt < k) (hp : S' (11 + 13 * (k : Int)) = tt) : gMet l D X b0 yX1_add cX1_add 3 (some (FieldType.object "EnergyDiscs$Meter")) (rmE 8 5 151) [.ref (A 0), .int (iI (tt : Int))] G (pA fun r G' => ∃ (tg' A' : Nat → Nat), r = A' (10 + k) ∧ tgR tg tg' hid G G' ∧ hsR D X tg' hid A' S' (fu W (k : Int) 0) G' ∧ ∀ r, usd S r → A' r = A r) := by
  refine gm_start (own := "EnergyDiscs$House") (lv := [some (.ref (A 0)), some (.int (iI (tt : Int))), none]) (by decide +kernel) rfl (Nat.le_of_ble_eq_true rfl) rfl (fun p_ e_ s_ m_ args_ below_ meth_ c_ hc hnm => ?_)
  have h7 := hT.1
  have h8 := hL.1
  have hx0 := hx_of hH
  rw [hk, Int.toNat_natCast] at hx0
  obtain ⟨mcm0, arm0, hmcm0, hMc0, hMa0, -⟩ := alR_P hH.2.2.2.2.1
  obtain ⟨cap, f, hA1, hf1, hb1, hfi⟩ := alP_get hMa0 (i := (tt : Int)) (by omega) (by omega)
  obtain ⟨hmtt, hfdt, -⟩ := hH.2.2.2.2.2.2.1 tt (by omega)
  obtain ⟨mcf, arf, hmcf, hFc, hFa, harf⟩ := alR_P hfdt
  have hlen := ch_len (S := S) (k := (tt : Int)) (by omega)
  have hobf : obL G 3 ((chL S tt).length : Int) (lel A 10 (chL S tt)) := fun i a c => ⟨_, (hH.2.2.2.2.2.2.1 _ (ch_mem.mp (gd_mem (L := chL S tt) (i := i.toNat) (by omega))).1).1⟩
  refine gw_new (q := 3) (fs := [.int (iI 0), .null, .null, .null, .int (iI 0), .int (iI 0), .int (iI 0), .int (iI 0), .int (iI 0), .int (iI 0), .int (iI 0), .int (iI 0), .int (iI 0), .int (iI 0), .int (iI 0), .int (iI 0), .long (jI 0)]) hc dX1_add_0 rfl cE_ME q321 q326 q87 (fun j hj => by rcases (by omega : j = 0 ∨ j = 1 ∨ j = 2 ∨ j = 3 ∨ j = 4 ∨ j = 5 ∨ j = 6 ∨ j = 7 ∨ j = 8 ∨ j = 9 ∨ j = 10 ∨ j = 11 ∨ j = 12 ∨ j = 13 ∨ j = 14 ∨ j = 15 ∨ j = 16) with rfl | rfl | rfl | rfl | rfl | rfl | rfl | rfl | rfl | rfl | rfl | rfl | rfl | rfl | rfl | rfl | rfl <;> rfl) (bc' := 4) (bs' := 134) (Nat.le_of_ble_eq_true rfl) (Nat.le_of_ble_eq_true rfl) (fun x hnx hbx => ?_)
  refine gw_dup (q := 4) hc dX1_add_3 rfl rfl ?_
  refine gw_aload_n (q := 5) hc dX1_add_4 rfl rfl xg_0 ?_
  refine gw_get (q := 8) hc dX1_add_5 rfl cE_HO 1 (by decide) q144 (fun _ h => h) (gup_k hH.2.2.1 hnx) rfl ?_
  refine gw_callF (q := 13) (bc' := 4) (bs' := 134) (As := []) hc dX1_add_8 rfl cE_AL q328 mf_J2_size_7 rfl rfl (m_J2_size (gup_k hMc0 hnx)) (rc_o hc cE_AL (gup_k hMc0 hnx)) ⟨Nat.le_of_ble_eq_true rfl, Nat.le_of_ble_eq_true rfl⟩ (Nat.le_of_ble_eq_true rfl) (Nat.le_of_ble_eq_true rfl) (Nat.le_of_ble_eq_true rfl) (goI fun r8 G8 h8 => ?_)
  obtain ⟨er8, hgg⟩ := h8
  rw [hgg, er8, hk]
  refine gw_iload_n (q := 14) hc dX1_add_13 rfl rfl xg_1 ?_
  refine gw_if_ge  (q := 17) (t := 21) hc dX1_add_14 rfl (by decide) (by omega) (fun c14 => ?_) (fun c14 => ?_)
  · skip
    refine gw_aload_n (q := 22) hc dX1_add_21 rfl rfl xg_0 ?_
    refine gw_get (q := 25) hc dX1_add_22 rfl cE_HO 1 (by decide) q144 (fun _ h => h) (gup_k hH.2.2.1 hnx) rfl ?_
    refine gw_iload_n (q := 26) hc dX1_add_25 rfl rfl xg_1 ?_
    refine gw_callF (q := 31) (bc' := 4) (bs' := 134) (As := [_]) hc dX1_add_26 rfl cE_AL q330 mf_J2_get_7 rfl rfl (m_J2_get (gup_k hMc0 hnx) (gup_k hA1 hnx) (by omega) (by omega) hfi) (rc_o hc cE_AL (gup_k hMc0 hnx)) ⟨Nat.le_of_ble_eq_true rfl, Nat.le_of_ble_eq_true rfl⟩ (Nat.le_of_ble_eq_true rfl) (Nat.le_of_ble_eq_true rfl) (Nat.le_of_ble_eq_true rfl) (goA fun r26 G26 h26 => ?_)
    obtain ⟨er26, hgg⟩ := h26
    rw [hgg, er26]
    refine gw_cast (q := 34) hc dX1_add_31 rfl q321 (rc_o hc cE_ME (gup_k hmtt hnx)) ?_
    refine gw_callI (q := 37) (bc' := 1) (bs' := 64) (As := [_, _]) hc dX1_add_34 rfl q342 mw_X3_init rfl rfl (m_X3_init gup_s (gup_k hmtt hnx) rfl (gup_k hFc hnx) (alP_x hFa (fun e he => gup_k he hnx)) (by omega) (obL_x (a := x) hobf (fun q e _ he => gup_k he hnx) gup_s)) ⟨Nat.le_of_ble_eq_true rfl, Nat.le_of_ble_eq_true rfl⟩ (Nat.le_of_ble_eq_true rfl) (Nat.le_of_ble_eq_true rfl) (Nat.le_of_ble_eq_true rfl) (goV fun G34 h34 => ?_)
    obtain ⟨y, z, G1, hnm, had0⟩ := h34
    obtain ⟨tg1, ht1, hx1⟩ := hx_meter (S' := S') (W' := fu W (k : Int) 0) hx0 hk7 hnx hnm hh hS hN (by unfold thV; rw [if_neg (by omega), hp, Int.toNat_natCast]) (fun j h1 h2 => by by_cases e : j = k; (rw [e, hp]; omega); (rw [hS _ (by omega) (by omega) (by omega) (by omega) (by omega)]; have := hT.2 j (by omega) (by omega); omega)) (fun j hj => fu_n (by omega)) fu_s (by omega) (by omega) (fun j hj c hc => by have := (ch_mem.mp hc).1; omega) (fun j hj c hc => by have := (ls_mem.mp hc).1; omega)
    have eA : ∀ r, usd S r → A_mt A k x y z r = A r := fun r hr => A_mt_o (by rcases hr with rfl | rfl | rfl | rfl | ⟨k2, hk2, rfl | rfl | rfl⟩ | ⟨j, hj, rfl⟩ <;> omega)
    have eA0 : A 0 = A_mt A k x y z 0 := (eA 0 us_0).symm
    have ex : x = A_mt A k x y z (10 + k) := (if_pos rfl : A_mt A k x y z (10 + k) = x).symm
    have hFc1 := (nm_ex hnm).1 _ _ (ne_none hFc hnx) (gup_k hFc hnx)
    generalize A_mt A k x y z = A1 at hx1 eA eA0 ex
    have etf : A (20 + tt) = A1 (20 + tt) := (eA _ (us_f (by omega))).symm
    have had1 := adP_el had0 (el' := lel A1 10 (chL S tt)) (fun i a c => eA _ (us_m (ch_mem.mp (gd_mem (L := chL S tt) (i := i.toNat) (by omega))).1))
    rw [etf] at had1 hFc1
    rw [eA0]
    refine gw_x0 hc (fun hX5 => ?_)
    have efl : (if tt = k then ([] : List Nat) else chL S (tt : Int)) = chL S tt := if_neg (by omega)
    obtain ⟨mcg, arg, -, hGc, -, harg⟩ := alR_P (hx1.2.2.2.2.2.2.1 tt (by omega)).2.1
    have earg : arg = arf := by
        have e := congrArg (fun o : Option va_E => match o with | some (.inr (_, fs)) => fs.getD 1 .null | _ => .null) (hGc.symm.trans hFc1)
        exact Value.ref.inj e
    subst earg
    obtain ⟨tg2, ht2, hx2⟩ := hx_feed (c := k) hx1 (by omega : tt < k + 1) (by rw [efl]; exact hFc1) harg (adP_nn had0 hX5) (by rw [efl, ← ex]; exact had1) (by rw [efl]; omega) hh
    obtain ⟨mcm, arm, hmcm, hMc, hMa, harm⟩ := alR_P hx2.2.2.2.2.1
    have hmk := (hx2.2.2.2.2.2.2.1 k (by omega)).1
    rw [ex]
    have hobm : obL G34 3 (k : Int) (fun i => A1 (10 + i.toNat)) := fun i a c => ⟨_, (hx2.2.2.2.2.2.2.1 i.toNat (by omega)).1⟩
    refine gw_astore_n (q := 38) hc dX1_add_37 rfl rfl xs_2 (by decide) (n2p xg_1 rfl) ?_
    refine gw_aload_n (q := 39) hc dX1_add_38 rfl rfl xg_0 ?_
    refine gw_get (q := 42) hc dX1_add_39 rfl cE_HO 1 (by decide) q144 (fun _ h => h) hx2.2.2.1 rfl ?_
    refine gw_aload_n (q := 43) hc dX1_add_42 rfl rfl xg_2 ?_
    refine gw_callF (q := 48) (bc' := 0) (bs' := 0) (As := [_]) hc dX1_add_43 rfl cE_AL q489 mf_J2_add_7 rfl rfl (m_J2_add hmk cE_ME q1556 hobm hMc hMa (by omega)) (rc_o hc cE_AL hMc) ⟨Nat.le_of_ble_eq_true rfl, Nat.le_of_ble_eq_true rfl⟩ (Nat.le_of_ble_eq_true rfl) (Nat.le_of_ble_eq_true rfl) (Nat.le_of_ble_eq_true rfl) (goI fun r43 G43 h43 => ?_)
    obtain ⟨-, had⟩ := h43
    obtain ⟨tg3, ht3, hx3⟩ := hx_ml hx2 hMc harm hX5 had (by omega) hh
    refine gw_pop (q := 49) hc dX1_add_48 rfl rfl ?_
    refine gw_aload_n (q := 50) hc dX1_add_49 rfl rfl xg_2 ?_
    exact gw_aret hc rfl (by first | exact Or.inl ⟨_, rfl⟩ | exact Or.inr ⟨_, rfl⟩) dX1_add_50 ⟨_, rfl, ⟨tg3, A1, rfl, tgR_tr (by omega) ht1 (tgR_tr (by omega) ht2 ht3), hx_to hx3 (by omega) (hS 8 (by omega) (by omega) (by omega) (by omega) (by omega)).symm (by push_cast; omega) (by rw [hS 8 (by omega) (by omega) (by omega) (by omega) (by omega)]; omega) (fun j hj => by rw [efl, ch_app hk hS7 (fun i hi => hS _ (by omega) (by omega) (by omega) (by omega) (by omega)) hp j]; by_cases e1 : j = tt; (subst e1; rw [if_pos rfl, if_pos ⟨by omega, rfl⟩]); (by_cases e2 : j = k; (rw [if_neg e1, if_pos e2, if_neg (show ¬ (0 < k ∧ (tt : Int) = j) by omega), List.append_nil, e2]; exact (ch_none hT hk).symm); rw [if_neg e1, if_neg e2, if_neg (show ¬ (0 < k ∧ (tt : Int) = j) by omega), List.append_nil])) (fun j hj => ls_new hL hk hS hk7 j), eA⟩⟩
  · exfalso; omega

