/-! ===== THE CLASS: a load, a meter into a house ===== -/
set_option maxRecDepth 100000
theorem ls_app {S S' : Int → Int} {nd : Nat} (h8 : S 8 = nd) (h8' : S' 8 = S 8 + 1) (hs : ∀ j : Nat, j < nd → S' (102 + 3 * (j : Int)) = S (102 + 3 * (j : Int))) {mt : Nat} (hm : S' (102 + 3 * (nd : Int)) = mt) (k : Nat) : (if k = mt then lsL S mt ++ [nd] else lsL S k) = lsL S' k := by
  have e : lsL S' k = lsL S k ++ (if k = mt then [nd] else []) := by
    unfold lsL
    rw [h8', show (S 8 + 1).toNat = nd + 1 by omega, show (S 8).toNat = nd by omega, List.range_succ, List.filter_append]
    congr 1
    · apply List.filter_congr
      intro j hj
      rw [hs j (List.mem_range.mp hj)]
    · by_cases q : k = mt
      · rw [if_pos q]; simp [hm, q]
      · rw [if_neg q]; simp [hm]; omega
  rw [e]
  by_cases q : k = mt
  · subst q; rw [if_pos rfl, if_pos rfl]
  · rw [if_neg q, if_neg q, List.append_nil]

set_option maxHeartbeats 4000000 in
theorem m_X1_addLoad {l : Launch} {D : va_G} {X : Nat → Nat} {b0 : Nat} {tg : Nat → Nat} {hid : Nat} {A : Nat → Nat} {S W : Int → Int} {G : gM} (hH : hsR D X tg hid A S W G) (hT : treeW S) (hL : loadW S) {S' : Int → Int} {b nd mt : Nat} (hnd : S 8 = nd) (hmt : S' (102 + 3 * (nd : Int)) = mt) (hmt7 : (mt : Int) < S 7) (hb : G b = some (loC S' nd)) (hbt : tg b / 100 = 999) (hh : hid < 999) (h812 : nd < 12) (hS8 : S' 8 = S 8 + 1) (hS : ∀ i, 0 ≤ i → i < 138 → i ≠ 8 → i ≠ 9 → (i < 102 + 3 * (nd : Int) ∨ 102 + 3 * (nd : Int) + 3 ≤ i) → S' i = S i) : gMet l D X b0 yX1_addLoad cX1_addLoad 2 (some FieldType.int) (rmE 7 2 128) [.ref (A 0), .ref b] G (pI fun r G' => r = (nd : Int) ∧ ∃ tg' : Nat → Nat, tgR tg tg' hid G G' ∧ hsR D X tg' hid (A_lo A nd b) S' W G') := by
  refine gm_start (own := "EnergyDiscs$House") (lv := [some (.ref (A 0)), some (.ref b)]) (by decide +kernel) rfl (Nat.le_of_ble_eq_true rfl) rfl (fun p_ e_ s_ m_ args_ below_ meth_ c_ hc hnm => ?_)
  have h7 := hT.1
  have hx0 := hx_of hH
  rw [hnd, Int.toNat_natCast] at hx0
  obtain ⟨tg1, ht1, hx1⟩ := hx_load (S' := S') hx0 h812 hbt hb hh hS (fun k a c => by have := hT.2 k (by omega) (by omega); omega) (by omega) (by omega) (fun k hk c hc => by have := (ch_mem.mp hc).1; omega) (fun k hk c hc => by have := (ls_mem.mp hc).1; omega)
  have eA0 : A 0 = A_lo A nd b 0 := (A_lo_o (by omega)).symm
  have eb : b = A_lo A nd b (60 + nd) := (if_pos rfl : A_lo A nd b (60 + nd) = b).symm
  generalize A_lo A nd b = A1 at hx1 eA0 eb ⊢
  subst eb
  rw [eA0]
  refine gw_x0 hc (fun hX0 => ?_)
  obtain ⟨mcl, arl, hmcl, hLc, hLa, har⟩ := alR_P hx1.2.2.2.2.2.1
  have hlo1 := hx1.2.2.2.2.2.2.2 nd (by omega)
  have hob1 : obL G 4 nd (fun i => A1 (60 + i.toNat)) := fun i a c => ⟨_, hx1.2.2.2.2.2.2.2 i.toNat (by omega)⟩
  refine gw_aload_n (q := 1) hc dX1_addLoad_0 rfl rfl xg_0 ?_
  refine gw_get (q := 4) hc dX1_addLoad_1 rfl cE_HO 2 (by decide) q146 (fun _ h => h) hx1.2.2.1 rfl ?_
  refine gw_aload_n (q := 5) hc dX1_addLoad_4 rfl rfl xg_1 ?_
  refine gw_callF (q := 10) (bc' := 1) (bs' := 64) (As := [_]) hc dX1_addLoad_5 rfl cE_AL q489 mf_J2_add_7 rfl rfl (m_J2_add hlo1 cE_LO q1557 hob1 hLc hLa (by omega)) (rc_o hc cE_AL hLc) ⟨Nat.le_of_ble_eq_true rfl, Nat.le_of_ble_eq_true rfl⟩ (Nat.le_of_ble_eq_true rfl) (Nat.le_of_ble_eq_true rfl) (Nat.le_of_ble_eq_true rfl) (goI fun r5 G5 h5 => ?_)
  obtain ⟨-, had⟩ := h5
  obtain ⟨tg2, ht2, hx2⟩ := hx_nl hx1 hLc har hX0 had (by omega) hh
  refine gw_x0 hc (fun hX5 => ?_)
  obtain ⟨mcm, arm, hmcm, hMc, hMa, -⟩ := alR_P hx2.2.2.2.2.1
  have hlo2 := hx2.2.2.2.2.2.2.2 nd (by omega)
  obtain ⟨hmk, -, hld⟩ := hx2.2.2.2.2.2.2.1 mt (by omega)
  obtain ⟨mcl2, arl2, hmcl2, hLc2, hLa2, har2⟩ := alR_P hld
  obtain ⟨cap, f, hA1, hf1, hb1, hfi⟩ := alP_get hMa (i := (mt : Int)) (by omega) (by omega)
  have hll := ls_len (S := S) (k := (mt : Int)) (by omega)
  have hob2 : obL G5 4 ((lsL S mt).length : Int) (lel A1 60 (lsL S mt)) := fun i a c => ⟨_, hx2.2.2.2.2.2.2.2 _ (by have := (ls_mem.mp (gd_mem (L := lsL S mt) (i := i.toNat) (by omega))).1; omega)⟩
  refine gw_pop (q := 11) hc dX1_addLoad_10 rfl rfl ?_
  refine gw_aload_n (q := 12) hc dX1_addLoad_11 rfl rfl xg_0 ?_
  refine gw_get (q := 15) hc dX1_addLoad_12 rfl cE_HO 1 (by decide) q144 (fun _ h => h) hx2.2.2.1 rfl ?_
  refine gw_aload_n (q := 16) hc dX1_addLoad_15 rfl rfl xg_1 ?_
  refine gw_getN (q := 19) hc dX1_addLoad_16 rfl cE_LO 1 (by decide) q509 (fun _ h => h) hlo2 rfl ?_
  rw [hmt]
  refine gw_callF (q := 24) (bc' := 1) (bs' := 64) (As := [_]) hc dX1_addLoad_19 rfl cE_AL q330 mf_J2_get_7 rfl rfl (m_J2_get hMc hA1 (by omega) (by omega) hfi) (rc_o hc cE_AL hMc) ⟨Nat.le_of_ble_eq_true rfl, Nat.le_of_ble_eq_true rfl⟩ (Nat.le_of_ble_eq_true rfl) (Nat.le_of_ble_eq_true rfl) (Nat.le_of_ble_eq_true rfl) (goA fun r19 G19 h19 => ?_)
  obtain ⟨rfl, hgg⟩ := h19
  rw [hgg]
  refine gw_cast (q := 27) hc dX1_addLoad_24 rfl q321 (rc_o hc cE_ME hmk) ?_
  refine gw_getN (q := 30) hc dX1_addLoad_27 rfl cE_ME 3 (by decide) q418 (fun _ h => h) hmk rfl ?_
  refine gw_aload_n (q := 31) hc dX1_addLoad_30 rfl rfl xg_1 ?_
  refine gw_callF (q := 36) (bc' := 0) (bs' := 0) (As := [_]) hc dX1_addLoad_31 rfl cE_AL q489 mf_J2_add_7 rfl rfl (m_J2_add hlo2 cE_LO q1557 hob2 hLc2 hLa2 (by omega)) (rc_o hc cE_AL hLc2) ⟨Nat.le_of_ble_eq_true rfl, Nat.le_of_ble_eq_true rfl⟩ (Nat.le_of_ble_eq_true rfl) (Nat.le_of_ble_eq_true rfl) (Nat.le_of_ble_eq_true rfl) (goI fun r31 G31 h31 => ?_)
  obtain ⟨-, had2⟩ := h31
  obtain ⟨tg3, ht3, hx3⟩ := hx_mload hx2 (by omega) hLc2 har2 hX5 had2 (by omega) hh
  obtain ⟨mcl3, arl3, hmcl3, hLc3, -, -⟩ := alR_P hx3.2.2.2.2.2.1
  refine gw_pop (q := 37) hc dX1_addLoad_36 rfl rfl ?_
  refine gw_aload_n (q := 38) hc dX1_addLoad_37 rfl rfl xg_0 ?_
  refine gw_get (q := 41) hc dX1_addLoad_38 rfl cE_HO 2 (by decide) q146 (fun _ h => h) hx3.2.2.1 rfl ?_
  refine gw_callF (q := 46) (bc' := 0) (bs' := 0) (As := []) hc dX1_addLoad_41 rfl cE_AL q328 mf_J2_size_7 rfl rfl (m_J2_size hLc3) (rc_o hc cE_AL hLc3) ⟨Nat.le_of_ble_eq_true rfl, Nat.le_of_ble_eq_true rfl⟩ (Nat.le_of_ble_eq_true rfl) (Nat.le_of_ble_eq_true rfl) (Nat.le_of_ble_eq_true rfl) (goI fun r41 G41 h41 => ?_)
  obtain ⟨rfl, hgg⟩ := h41
  rw [hgg]
  refine gw_iconst (q := 47) hc dX1_addLoad_46 rfl ?_
  refine gw_isub (q := 48) hc dX1_addLoad_47 rfl ?_
  exact gw_iret hc dX1_addLoad_48 ⟨_, rfl, ⟨by omega, tg3, tgR_tr (by omega) ht1 (tgR_tr (by omega) ht2 ht3), hx_to hx3 (hS 7 (by omega) (by omega) (by omega) (by omega) (by omega)).symm (by omega) (by rw [hS 7 (by omega) (by omega) (by omega) (by omega) (by omega)]; omega) (by push_cast; omega) (fun k hk => by unfold chL; rw [hS 7 (by omega) (by omega) (by omega) (by omega) (by omega)]; exact (List.filter_congr (fun j hj => by have := List.mem_range.mp hj; unfold chP; rw [hS _ (by omega) (by omega) (by omega) (by omega) (by omega)])).symm) (fun k hk => ls_app hnd hS8 (fun j hj => hS _ (by omega) (by omega) (by omega) (by omega) (by omega)) hmt k)⟩⟩

