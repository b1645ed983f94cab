/-! ===== THE CLASS: a meter into a house ===== -/
set_option maxRecDepth 100000
theorem ch_app {S S' : Int → Int} {k : Nat} (h7 : S 7 = k) (h7' : S' 7 = S 7 + 1) (hs : ∀ j : Nat, j < k → S' (11 + 13 * (j : Int)) = S (11 + 13 * (j : Int))) {p : Int} (hp : S' (11 + 13 * (k : Int)) = p) (j : Nat) : chL S' j = chL S j ++ (if 0 < k ∧ p = j then [k] else []) := by
  unfold chL
  rw [h7', show (S 7 + 1).toNat = k + 1 by omega, show (S 7).toNat = k by omega, List.range_succ, List.filter_append]
  congr 1
  · apply List.filter_congr
    intro i hi
    unfold chP
    rw [hs i (List.mem_range.mp hi)]
  · by_cases q : 0 < k ∧ p = j
    · rw [if_pos q]; simp [chP, hp, q.1, q.2]
    · rw [if_neg q]; simp [chP, hp]; omega
/-- a meter that is not there feeds none and has no loads -/
theorem ch_none {S : Int → Int} {k : Nat} (hT : treeW S) (h7 : S 7 = k) : chL S k = [] := by
  apply List.filter_eq_nil_iff.mpr
  intro j hj
  have hj := List.mem_range.mp hj
  unfold chP
  by_cases h0 : 0 < j
  · have := (hT.2 j (by omega) (by omega)).2
    simp; omega
  · simp; omega
theorem ls_none {S : Int → Int} {k : Nat} (hL : loadW S) (h7 : S 7 = k) : lsL S k = [] := by
  apply List.filter_eq_nil_iff.mpr
  intro j hj
  have hj := List.mem_range.mp hj
  have := (hL.2 j (by omega) (by omega)).1.2
  simp; omega

theorem ls_new {S S' : Int → Int} {k : Nat} (hL : loadW S) (hk : S 7 = k) (hS : ∀ i, 0 ≤ i → i < 138 → i ≠ 7 → i ≠ 9 → (i < 11 + 13 * (k : Int) ∨ 11 + 13 * (k : Int) + 13 ≤ i) → S' i = S i) (hk7 : k < 7) (j : Nat) : (if j = k then [] else lsL S j) = lsL S' j := by
  have h8 := hL.1
  have e : lsL S' j = lsL S j := by
    unfold lsL
    rw [hS 8 (by omega) (by omega) (by omega) (by omega) (by omega)]
    apply List.filter_congr
    intro i hi
    have := List.mem_range.mp hi
    rw [hS _ (by omega) (by omega) (by omega) (by omega) (by omega)]
  rw [e]
  by_cases q : j = k
  · rw [if_pos q, q, ls_none hL hk]
  · rw [if_neg q]
theorem mw_X3_init : mI yX3_init cX3_init 3 2 := ⟨⟨rfl, by decide +kernel, by decide +kernel, by decide +kernel⟩, q343, q87, q344⟩
set_option maxHeartbeats 4000000 in
theorem m_X1_add_N {l : Launch} {D : va_G} {X : Nat → Nat} {b0 : Nat} {tg : Nat → Nat} {hid : Nat} {A : Nat → Nat} {S W : Int → Int} {G : gM} (hH : hsR D X tg hid A S W G) (hT : treeW S) (hL : loadW S) {S' : Int → Int} {k : Nat} {t : Int} (hk : S 7 = k) (hk7 : k < 7) (hh : hid < 999) (hS7 : S' 7 = S 7 + 1) (hS : ∀ i, 0 ≤ i → i < 138 → i ≠ 7 → i ≠ 9 → (i < 11 + 13 * (k : Int) ∨ 11 + 13 * (k : Int) + 13 ≤ i) → S' i = S i) (hN : ∀ j, 1 ≤ j → j ≤ 12 → S' (11 + 13 * (k : Int) + j) = if j = 2 then 100 else 0) (ht : t < 0 ∧ rI t) (hk0 : k = 0) (hp : S' 11 = -1) : gMet l D X b0 yX1_add cX1_add 3 (some (FieldType.object "EnergyDiscs$Meter")) (rmE 7 4 87) [.ref (A 0), .int (iI t)] G (pA fun r G' => ∃ (tg' A' : Nat → Nat), r = A' (10 + k) ∧ tgR tg tg' hid G G' ∧ hsR D X tg' hid A' S' (fu W (k : Int) 0) G' ∧ ∀ r, usd S r → A' r = A r) := by
  refine gm_start (own := "EnergyDiscs$House") (lv := [some (.ref (A 0)), some (.int (iI t)), none]) (by decide +kernel) rfl (Nat.le_of_ble_eq_true rfl) rfl (fun p_ e_ s_ m_ args_ below_ meth_ c_ hc hnm => ?_)
  have h7 := hT.1
  have h8 := hL.1
  have hx0 := hx_of hH
  rw [hk, Int.toNat_natCast] at hx0
  obtain ⟨mcm0, arm0, hmcm0, hMc0, hMa0, -⟩ := alR_P hH.2.2.2.2.1
  refine gw_new (q := 3) (fs := [.int (iI 0), .null, .null, .null, .int (iI 0), .int (iI 0), .int (iI 0), .int (iI 0), .int (iI 0), .int (iI 0), .int (iI 0), .int (iI 0), .int (iI 0), .int (iI 0), .int (iI 0), .int (iI 0), .long (jI 0)]) hc dX1_add_0 rfl cE_ME q321 q326 q87 (fun j hj => by rcases (by omega : j = 0 ∨ j = 1 ∨ j = 2 ∨ j = 3 ∨ j = 4 ∨ j = 5 ∨ j = 6 ∨ j = 7 ∨ j = 8 ∨ j = 9 ∨ j = 10 ∨ j = 11 ∨ j = 12 ∨ j = 13 ∨ j = 14 ∨ j = 15 ∨ j = 16) with rfl | rfl | rfl | rfl | rfl | rfl | rfl | rfl | rfl | rfl | rfl | rfl | rfl | rfl | rfl | rfl | rfl <;> rfl) (bc' := 3) (bs' := 70) (Nat.le_of_ble_eq_true rfl) (Nat.le_of_ble_eq_true rfl) (fun x hnx hbx => ?_)
  refine gw_dup (q := 4) hc dX1_add_3 rfl rfl ?_
  refine gw_aload_n (q := 5) hc dX1_add_4 rfl rfl xg_0 ?_
  refine gw_get (q := 8) hc dX1_add_5 rfl cE_HO 1 (by decide) q144 (fun _ h => h) (gup_k hH.2.2.1 hnx) rfl ?_
  refine gw_callF (q := 13) (bc' := 3) (bs' := 70) (As := []) hc dX1_add_8 rfl cE_AL q328 mf_J2_size_7 rfl rfl (m_J2_size (gup_k hMc0 hnx)) (rc_o hc cE_AL (gup_k hMc0 hnx)) ⟨Nat.le_of_ble_eq_true rfl, Nat.le_of_ble_eq_true rfl⟩ (Nat.le_of_ble_eq_true rfl) (Nat.le_of_ble_eq_true rfl) (Nat.le_of_ble_eq_true rfl) (goI fun r8 G8 h8 => ?_)
  obtain ⟨er8, hgg⟩ := h8
  rw [hgg, er8, hk]
  refine gw_iload_n (q := 14) hc dX1_add_13 rfl rfl xg_1 ?_
  refine gw_if_ge  (q := 17) (t := 21) hc dX1_add_14 rfl (by decide) (by omega) (fun c14 => ?_) (fun c14 => ?_)
  · exfalso; omega
  · skip
    refine gw_null (q := 18) hc dX1_add_17 rfl ?_
    refine gw_goto (q := 34) hc dX1_add_18 (by decide) ?_
    refine gw_callI (q := 37) (bc' := 1) (bs' := 64) (As := [_, _]) hc dX1_add_34 rfl q342 mw_X3_init rfl rfl (m_X3_init_N gup_s) ⟨Nat.le_of_ble_eq_true rfl, Nat.le_of_ble_eq_true rfl⟩ (Nat.le_of_ble_eq_true rfl) (Nat.le_of_ble_eq_true rfl) (Nat.le_of_ble_eq_true rfl) (goV fun G34 h34 => ?_)
    obtain ⟨y, z, hnm⟩ := h34
    obtain ⟨tg1, ht1, hx1⟩ := hx_meter (S' := S') (W' := fu W (k : Int) 0) hx0 hk7 hnx hnm hh hS hN (by unfold thV; rw [if_pos hk0]) (fun j h1 h2 => by omega) (fun j hj => fu_n (by omega)) fu_s (by omega) (by omega) (fun j hj c hc => by have := (ch_mem.mp hc).1; omega) (fun j hj c hc => by have := (ls_mem.mp hc).1; omega)
    have eA : ∀ r, usd S r → A_mt A k x y z r = A r := fun r hr => A_mt_o (by rcases hr with rfl | rfl | rfl | rfl | ⟨k2, hk2, rfl | rfl | rfl⟩ | ⟨j, hj, rfl⟩ <;> omega)
    have eA0 : A 0 = A_mt A k x y z 0 := (eA 0 us_0).symm
    have ex : x = A_mt A k x y z (10 + k) := (if_pos rfl : A_mt A k x y z (10 + k) = x).symm
    generalize A_mt A k x y z = A1 at hx1 eA eA0 ex
    rw [eA0, ex]
    refine gw_x0 hc (fun hX5 => ?_)
    obtain ⟨mcm, arm, hmcm, hMc, hMa, harm⟩ := alR_P hx1.2.2.2.2.1
    have hmk := (hx1.2.2.2.2.2.2.1 k (by omega)).1
    have hobm : obL _ 3 (k : Int) (fun i => A1 (10 + i.toNat)) := fun i a c => ⟨_, (hx1.2.2.2.2.2.2.1 i.toNat (by omega)).1⟩
    refine gw_astore_n (q := 38) hc dX1_add_37 rfl rfl xs_2 (by decide) (n2p xg_1 rfl) ?_
    refine gw_aload_n (q := 39) hc dX1_add_38 rfl rfl xg_0 ?_
    refine gw_get (q := 42) hc dX1_add_39 rfl cE_HO 1 (by decide) q144 (fun _ h => h) hx1.2.2.1 rfl ?_
    refine gw_aload_n (q := 43) hc dX1_add_42 rfl rfl xg_2 ?_
    refine gw_callF (q := 48) (bc' := 0) (bs' := 0) (As := [_]) hc dX1_add_43 rfl cE_AL q489 mf_J2_add_7 rfl rfl (m_J2_add hmk cE_ME q1556 hobm hMc hMa (by omega)) (rc_o hc cE_AL hMc) ⟨Nat.le_of_ble_eq_true rfl, Nat.le_of_ble_eq_true rfl⟩ (Nat.le_of_ble_eq_true rfl) (Nat.le_of_ble_eq_true rfl) (Nat.le_of_ble_eq_true rfl) (goI fun r43 G43 h43 => ?_)
    obtain ⟨-, had⟩ := h43
    obtain ⟨tg3, ht3, hx3⟩ := hx_ml hx1 hMc harm hX5 had (by omega) hh
    refine gw_pop (q := 49) hc dX1_add_48 rfl rfl ?_
    refine gw_aload_n (q := 50) hc dX1_add_49 rfl rfl xg_2 ?_
    exact gw_aret hc rfl (by first | exact Or.inl ⟨_, rfl⟩ | exact Or.inr ⟨_, rfl⟩) dX1_add_50 ⟨_, rfl, ⟨tg3, A1, rfl, tgR_tr (by omega) ht1 ht3, hx_to hx3 (by omega) (hS 8 (by omega) (by omega) (by omega) (by omega) (by omega)).symm (by push_cast; omega) (by rw [hS 8 (by omega) (by omega) (by omega) (by omega) (by omega)]; omega) (fun j hj => by rw [ch_app hk hS7 (fun i hi => by omega) (p := -1) (by rw [hk0]; exact hp) j, if_neg (show ¬ (0 < k ∧ (-1 : Int) = j) by omega), List.append_nil]; rw [if_pos (show j = k by omega), show j = k by omega]; exact (ch_none hT hk).symm) (fun j hj => ls_new hL hk hS hk7 j), eA⟩⟩

