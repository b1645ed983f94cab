/-! ===== THE CLASS: a house's minutes, visits ===== -/
set_option maxRecDepth 100000
/-- only cells of house hid change -/
def frH (tg : Nat → Nat) (hid : Nat) (G G' : gM) : Prop := ∀ q, tg q / 100 ≠ hid → G' q = G q
theorem frH_rf {tg : Nat → Nat} {hid : Nat} {G : gM} : frH tg hid G G := fun _ _ => rfl
theorem frH_tr {tg : Nat → Nat} {hid : Nat} {G G1 G2 : gM} (h1 : frH tg hid G G1) (h2 : frH tg hid G1 G2) : frH tg hid G G2 := fun q hq => (h2 q hq).trans (h1 q hq)
theorem frH_M {tg : Nat → Nat} {hid : Nat} {G G1 : gM} (h : frM tg hid G G1) : frH tg hid G G1 := fun q hq => h q (by omega)
theorem frH_gup {tg : Nat → Nat} {hid : Nat} {G G1 : gM} {a m : Nat} {e : va_E} (h : frH tg hid G G1) (ha : tg a = 100 * hid + m) (hm : m < 100) : frH tg hid G (gup G1 a e) := fun q hq => by
  rw [gup_n (fun z => by rw [z, ha] at hq; omega)]
  exact h q hq
theorem thr_0 {S : Int → Int} (hT : treeW S) : ∀ (n y : Nat), y < n → (y : Int) < S 7 → thr S y 0 = true
  | 0, _, h, _ => by omega
  | n + 1, y, h, h7 => by
    by_cases e : y = 0
    · subst e; exact thr_self
    · have ht := hT.2 y (by omega) h7
      rw [thr_step hT (by omega) (by omega : (0 : Int) < y) h7]
      obtain ⟨x, hx⟩ : ∃ x : Nat, S (11 + 13 * (y : Int)) = x := ⟨(S (11 + 13 * (y : Int))).toNat, by omega⟩
      rw [hx]
      exact thr_0 hT n x (by omega) (by omega)
theorem gN_cg {g g' : Int → Int} {w pl sp br : Int} (h0 : g' 0 = g 0) (h1 : g' 1 = g 1) (h2 : g' 2 = g 2) : gN g' w pl sp br = gN g w pl sp br := by unfold gN; rw [h0, h1, h2]
/-- the meter's cell behind a minute is the row's -/
theorem pass_cell {A : Nat → Nat} {S W g : Int → Int} {k : Nat} {z : Int} (hw : W k = pw S k) (hg : ∀ i, 0 ≤ i → i ≤ 5 → g i = S i) (hz : (z = 1 ∧ ngt (S 6)) ∨ (z = 0 ∧ ¬ ngt (S 6))) (hs : S (11 + 13 * (k : Int) + 2) ≤ 160) :
    gN g (W k) (S (11 + 13 * (k : Int) + 1)) (S (11 + 13 * (k : Int) + 2)) (S (11 + 13 * (k : Int) + 7)) = pmG S 0 k ∧
    mtO k (thV A S k) (A (20 + k)) (A (40 + k)) (W k) (gN g (W k) (S (11 + 13 * (k : Int) + 1)) (S (11 + 13 * (k : Int) + 2)) (S (11 + 13 * (k : Int) + 7)) % 6000) (spN (g 3) (S (11 + 13 * (k : Int) + 9)) (S (11 + 13 * (k : Int) + 2))) (agN (g 3) (S (11 + 13 * (k : Int) + 9))) (S (11 + 13 * (k : Int) + 3) + if z = 1 then 0 else gN g (W k) (S (11 + 13 * (k : Int) + 1)) (S (11 + 13 * (k : Int) + 2)) (S (11 + 13 * (k : Int) + 7)) / 6000) (S (11 + 13 * (k : Int) + 4) + if z = 1 then gN g (W k) (S (11 + 13 * (k : Int) + 1)) (S (11 + 13 * (k : Int) + 2)) (S (11 + 13 * (k : Int) + 7)) / 6000 else 0)
      (S (11 + 13 * (k : Int) + 11)) (S (11 + 13 * (k : Int) + 12)) (S (11 + 13 * (k : Int) + 8)) (S (11 + 13 * (k : Int) + 10)) (S (11 + 13 * (k : Int) + 6)) (S (11 + 13 * (k : Int) + 7)) (S (11 + 13 * (k : Int) + 5) + W k) = mtC A (pmF S 0 k) W k := by
  have e : ∀ j : Int, (0 : Int) + 11 + 13 * (k : Int) + j = 11 + 13 * (k : Int) + j := fun j => by omega
  have hG : gN g (W k) (S (11 + 13 * (k : Int) + 1)) (S (11 + 13 * (k : Int) + 2)) (S (11 + 13 * (k : Int) + 7)) = pmG S 0 k := by
    unfold pmG
    rw [goF_gN, hw, pm1_o (by omega), pm1_o (by omega), pm1_o (by omega), e, e, e]
    refine gN_cg ?_ ?_ ?_
    · show g 0 = pm1 S 0 k (0 + 0)
      rw [pm1_o (by omega)]; exact hg 0 (by omega) (by omega)
    · show g 1 = pm1 S 0 k (0 + 1)
      rw [pm1_o (by omega)]; exact hg 1 (by omega) (by omega)
    · show g 2 = pm1 S 0 k (0 + 2)
      rw [pm1_o (by omega)]; exact hg 2 (by omega) (by omega)
  refine ⟨hG, ?_⟩
  have h1 := pmF_1 (S := S) (p := 0) (m := k)
  have h2 := pmF_2 (S := S) (p := 0) (m := k) (by omega)
  have h3 := pmF_d (S := S) (p := 0) (m := k) 3 (Or.inl rfl)
  have h4 := pmF_d (S := S) (p := 0) (m := k) 4 (Or.inr rfl)
  have h5 := pmF_5 (S := S) (p := 0) (m := k)
  have h9 := pmF_9 (S := S) (p := 0) (m := k) (by omega)
  have hN := pmN_e (S := S) (p := 0) (m := k) (by omega)
  have o : ∀ j : Int, (j = 6 ∨ j = 7 ∨ j = 8 ∨ j = 10 ∨ j = 11 ∨ j = 12) → pmF S 0 k (11 + 13 * (k : Int) + j) = S (11 + 13 * (k : Int) + j) := fun j hj => pmF_o (by omega) (by omega) (by omega) (by omega) (by omega) (by omega)
  have oz : pmF S 0 k (11 + 13 * (k : Int)) = S (11 + 13 * (k : Int)) := pmF_o (by omega) (by omega) (by omega) (by omega) (by omega) (by omega)
  simp only [e] at h1 h2 h3 h4 h5 h9
  unfold mtC thV
  rw [oz, h1, h2, h3, h4, h5, h9, o 6 (by omega), o 7 (by omega), o 8 (by omega), o 10 (by omega), o 11 (by omega), o 12 (by omega), hG, hN, ← hw, show g 3 = S (0 + 3) from hg 3 (by omega) (by omega)]
  unfold spN agN pmT
  have hsp : (if S (11 + 13 * (k : Int) + 2) + 1 < 160 then S (11 + 13 * (k : Int) + 2) + 1 else 160) = S (11 + 13 * (k : Int) + 2) + (if S (11 + 13 * (k : Int) + 2) < 160 then 1 else 0) := by split <;> split <;> omega
  rw [hsp]
  rcases hz with ⟨hz, hn⟩ | ⟨hz, hn⟩
  · subst hz
    rw [show (if ngt (S (0 + 6)) then (4 : Int) else 3) = 4 from if_pos hn]
    rfl
  · subst hz
    rw [show (if ngt (S (0 + 6)) then (4 : Int) else 3) = 3 from if_neg hn]
    rfl

set_option maxHeartbeats 4000000 in
theorem m_X0_isNight {l : Launch} {D : va_G} {X : Nat → Nat} {b0 : Nat} {G : gM} {t : Int} (ht : 0 ≤ t ∧ t < 1000000000) : gMet l D X b0 yX0_isNight cX0_isNight 2 (some FieldType.boolean) (rmE 0 0 0) [.int (iI t)] G (eB (ngt t) G) := by
  refine gm_start (own := "EnergyDiscs") (lv := [some (.int (iI t)), none]) (by decide +kernel) rfl (Nat.le_of_ble_eq_true rfl) rfl (fun p_ e_ s_ m_ args_ below_ meth_ c_ hc hnm => ?_)
  refine gw_iload_n (q := 1) hc dX0_isNight_0 rfl rfl xg_0 ?_
  refine gw_sipush (q := 4) hc dX0_isNight_1 rfl (by decide) ?_
  refine gw_irem (q := 5) hc dX0_isNight_4 rfl (by omega) (by omega) ?_
  refine gw_istore_n (q := 6) hc dX0_isNight_5 rfl rfl xs_1 (by decide) (n2p xg_0 rfl) ?_
  refine gw_iload_n (q := 7) hc dX0_isNight_6 rfl rfl xg_1 ?_
  refine gw_sipush (q := 10) hc dX0_isNight_7 rfl (by decide) ?_
  refine gw_icmp_ge  (q := 13) (t := 20) hc dX0_isNight_10 rfl (by decide) (by omega) (by omega) (fun c10 => ?_) (fun c10 => ?_)
  · skip
    refine gw_iconst (q := 21) hc dX0_isNight_20 rfl ?_
    refine gw_goto (q := 25) hc dX0_isNight_21 (by decide) ?_
    exact gw_zret hc (by first | exact Or.inl rfl | exact Or.inr rfl | omega) dX0_isNight_25 ⟨_, rfl, ⟨by unfold ngt; omega, rfl⟩⟩
  · skip
    refine gw_iload_n (q := 14) hc dX0_isNight_13 rfl rfl xg_1 ?_
    refine gw_sipush (q := 17) hc dX0_isNight_14 rfl (by decide) ?_
    refine gw_icmp_ge  (q := 20) (t := 24) hc dX0_isNight_17 rfl (by decide) (by omega) (by omega) (fun c17 => ?_) (fun c17 => ?_)
    · skip
      refine gw_iconst (q := 25) hc dX0_isNight_24 rfl ?_
      exact gw_zret hc (by first | exact Or.inl rfl | exact Or.inr rfl | omega) dX0_isNight_25 ⟨_, rfl, ⟨by unfold ngt; omega, rfl⟩⟩
    · skip
      refine gw_iconst (q := 21) hc dX0_isNight_20 rfl ?_
      refine gw_goto (q := 25) hc dX0_isNight_21 (by decide) ?_
      exact gw_zret hc (by first | exact Or.inl rfl | exact Or.inr rfl | omega) dX0_isNight_25 ⟨_, rfl, ⟨by unfold ngt; omega, rfl⟩⟩

set_option maxHeartbeats 4000000 in
theorem m_X0_isIn {l : Launch} {D : va_G} {X : Nat → Nat} {b0 : Nat} {G : gM} {v x y : Int} (hv : rI v) (hx : rI x) (hy : rI y) : gMet l D X b0 yX0_isIn cX0_isIn 3 (some FieldType.boolean) (rmE 0 0 0) [.int (iI v), .int (iI x), .int (iI y)] G (eB (x ≤ v ∧ v ≤ y) G) := by
  refine gm_start (own := "EnergyDiscs") (lv := [some (.int (iI v)), some (.int (iI x)), some (.int (iI y))]) (by decide +kernel) rfl (Nat.le_of_ble_eq_true rfl) rfl (fun p_ e_ s_ m_ args_ below_ meth_ c_ hc hnm => ?_)
  refine gw_iload_n (q := 1) hc dX0_isIn_0 rfl rfl xg_0 ?_
  refine gw_iload_n (q := 2) hc dX0_isIn_1 rfl rfl xg_1 ?_
  refine gw_icmp_lt  (q := 5) (t := 14) hc dX0_isIn_2 rfl (by decide) (by omega) (by omega) (fun c2 => ?_) (fun c2 => ?_)
  · skip
    refine gw_iconst (q := 15) hc dX0_isIn_14 rfl ?_
    exact gw_zret hc (by first | exact Or.inl rfl | exact Or.inr rfl | omega) dX0_isIn_15 ⟨_, rfl, ⟨by omega, rfl⟩⟩
  · skip
    refine gw_iload_n (q := 6) hc dX0_isIn_5 rfl rfl xg_0 ?_
    refine gw_iload_n (q := 7) hc dX0_isIn_6 rfl rfl xg_2 ?_
    refine gw_icmp_gt  (q := 10) (t := 14) hc dX0_isIn_7 rfl (by decide) (by omega) (by omega) (fun c7 => ?_) (fun c7 => ?_)
    · skip
      refine gw_iconst (q := 15) hc dX0_isIn_14 rfl ?_
      exact gw_zret hc (by first | exact Or.inl rfl | exact Or.inr rfl | omega) dX0_isIn_15 ⟨_, rfl, ⟨by omega, rfl⟩⟩
    · skip
      refine gw_iconst (q := 11) hc dX0_isIn_10 rfl ?_
      refine gw_goto (q := 15) hc dX0_isIn_11 (by decide) ?_
      exact gw_zret hc (by first | exact Or.inl rfl | exact Or.inr rfl | omega) dX0_isIn_15 ⟨_, rfl, ⟨by omega, rfl⟩⟩

theorem mw_X3_fed : mV "EnergyDiscs$Meter" yX3_fed cX3_fed 3 (some FieldType.int) 0 := ⟨⟨rfl, by decide +kernel, by decide +kernel, by decide +kernel⟩, q918, q919, q87, q920⟩
set_option maxHeartbeats 4000000 in
theorem m_X3_fed {l : Launch} {D : va_G} {X : Nat → Nat} {b0 : Nat} {tg : Nat → Nat} {hid : Nat} {A : Nat → Nat} {S W : Int → Int} {N : Int} {G : gM} (hW : rowW S N) (hH : hsR D X tg hid A S W G) : ∀ (n k : Nat), S 7 - k ≤ n → (k : Int) < S 7 → gMet l D X b0 yX3_fed cX3_fed 3 (some .int) (rmE (n + 3) 0 0) [.ref (A (10 + k))] G (eI (bts (fun y => thr S y k) (S 7).toNat) G)
  | 0, k, h0, hk => by omega
  | n + 1, k, h0, hk => by
    have h7 := rw_7 hW
    obtain ⟨hme, hfd, -⟩ := hH.2.2.2.2.2.2.1 k hk
    obtain ⟨mcf, arf, hmcf, hFc, hFa, -⟩ := alR_P hfd
    have hlen2 := ch_len (S := S) (k := (k : Int)) (by omega)
    refine gm_start (own := "EnergyDiscs$Meter") (lv := [some (.ref (A (10 + k))), none, none]) (by decide +kernel) rfl (Nat.le_of_ble_eq_true rfl) rfl (fun p_ e_ s_ m_ args_ below_ meth_ c_ hc hnm => ?_)
    refine gw_iconst (q := 1) hc dX3_fed_0 rfl ?_
    refine gw_aload_n (q := 2) hc dX3_fed_1 rfl rfl xg_0 ?_
    refine gw_get (q := 5) hc dX3_fed_2 rfl cE_ME 0 (by decide) q409 (fun _ h => h) hme rfl ?_
    refine gw_ishl (q := 6) hc dX3_fed_5 rfl ?_
    refine gw_istore_n (q := 7) hc dX3_fed_6 rfl rfl xs_1 (by decide) (n2p xg_0 rfl) ?_
    refine gw_iconst (q := 8) hc dX3_fed_7 rfl ?_
    refine gw_istore_n (q := 9) hc dX3_fed_8 rfl rfl xs_2 (by decide) (n2p xg_1 rfl) ?_
    rw [shl_1 (by omega), ← bts_one (k := k) (n := (S 7).toNat) (by omega), show bts (fun i => decide (i = (k : Int))) (S 7).toNat = (bts (fun y => decide (y = (k : Int)) || ((chL S k).take (0)).any (fun c => thr S y (c : Int))) (S 7).toNat) from bts_cg (fun i _ => by simp)]
    refine gw_loop (σ := Nat) (fun x => x ≤ (chL S k).length) (fun x => (chL S k).length - x) (fun x => G) (fun x => [some (.ref (A (10 + k))), some (.int (iI (bts (fun y => decide (y = (k : Int)) || ((chL S k).take (x)).any (fun c => thr S y (c : Int))) (S 7).toNat))), some (.int (iI (x : Int)))]) ?_ 0 (Nat.zero_le _)
    rintro i hI9 ih9
    try dsimp only at hI9 ⊢
    refine gw_iload_n (q := 10) hc dX3_fed_9 rfl rfl xg_2 ?_
    refine gw_aload_n (q := 11) hc dX3_fed_10 rfl rfl xg_0 ?_
    refine gw_get (q := 14) hc dX3_fed_11 rfl cE_ME 2 (by decide) q415 (fun _ h => h) hme rfl ?_
    refine gw_callF (q := 19) (bc' := 0) (bs' := 0) (As := []) hc dX3_fed_14 rfl cE_AL q650 mf_J2_size_7 rfl rfl (m_J2_size hFc) (rc_o hc cE_AL hFc) ⟨by first | exact Nat.le_of_ble_eq_true rfl | (dsimp only [rmE]; omega), by first | exact Nat.le_of_ble_eq_true rfl | (dsimp only [rmE]; omega)⟩ (by first | exact Nat.le_of_ble_eq_true rfl | (dsimp only [rmE]; omega)) (by first | exact Nat.le_of_ble_eq_true rfl | (dsimp only [rmE]; omega)) (by first | exact Nat.le_of_ble_eq_true rfl | (dsimp only [rmE]; omega)) (goI fun r14 G14 h14 => ?_)
    obtain ⟨rfl, rfl⟩ := h14
    refine gw_icmp_ge  (q := 22) (t := 47) hc dX3_fed_19 rfl (by decide) (by omega) (by omega) (fun c19 => ?_) (fun c19 => ?_)
    · skip
      refine gw_iload_n (q := 48) hc dX3_fed_47 rfl rfl xg_1 ?_
      exact gw_iret hc dX3_fed_48 ⟨_, rfl, ⟨bts_cg (fun y hy => by
      have ha := thr_any hW.1.1 (k := (k : Int)) (by omega) (x := y) (by omega)
      rw [List.take_of_length_le (by omega)]
      apply Bool.eq_iff_iff.mpr
      rw [Bool.or_eq_true, List.any_eq_true, decide_eq_true_eq]
      exact ha.symm), rfl⟩⟩
    · obtain ⟨cap, f, hA1, hf1, hb1, hfi⟩ := alP_get hFa (i := (i : Int)) (by omega) (by omega)
      have hmem := gd_mem (L := chL S k) (i := i) (by omega)
      obtain ⟨hc7, hc0, hck⟩ := ch_mem.mp hmem
      have hcm := hW.1.1.2 _ (by omega) hc7
      obtain ⟨hch, -, -⟩ := hH.2.2.2.2.2.2.1 _ hc7
      refine gw_iload_n (q := 23) hc dX3_fed_22 rfl rfl xg_1 ?_
      refine gw_aload_n (q := 24) hc dX3_fed_23 rfl rfl xg_0 ?_
      refine gw_get (q := 27) hc dX3_fed_24 rfl cE_ME 2 (by decide) q415 (fun _ h => h) hme rfl ?_
      refine gw_iload_n (q := 28) hc dX3_fed_27 rfl rfl xg_2 ?_
      refine gw_callF (q := 33) (bc' := 0) (bs' := 0) (As := [_]) hc dX3_fed_28 rfl cE_AL q652 mf_J2_get_7 rfl rfl (m_J2_get hFc hA1 (by omega) (by omega) hfi) (rc_o hc cE_AL hFc) ⟨by first | exact Nat.le_of_ble_eq_true rfl | (dsimp only [rmE]; omega), by first | exact Nat.le_of_ble_eq_true rfl | (dsimp only [rmE]; omega)⟩ (by first | exact Nat.le_of_ble_eq_true rfl | (dsimp only [rmE]; omega)) (by first | exact Nat.le_of_ble_eq_true rfl | (dsimp only [rmE]; omega)) (by first | exact Nat.le_of_ble_eq_true rfl | (dsimp only [rmE]; omega)) (goA fun r28 G28 h28 => ?_)
      obtain ⟨rfl, rfl⟩ := h28
      refine gw_cast (q := 36) hc dX3_fed_33 rfl q654 (rc_o hc cE_ME hch) ?_
      refine gw_callV (q := 39) (bc' := 0) (bs' := 0) (As := []) hc dX3_fed_36 rfl q921 mw_X3_fed (rc_o hc cE_ME hch) rfl rfl (m_X3_fed hW hH n _ (by omega) hc7) ⟨by first | exact Nat.le_of_ble_eq_true rfl | (dsimp only [rmE]; omega), by first | exact Nat.le_of_ble_eq_true rfl | (dsimp only [rmE]; omega)⟩ (by first | exact Nat.le_of_ble_eq_true rfl | (dsimp only [rmE]; omega)) (by first | exact Nat.le_of_ble_eq_true rfl | (dsimp only [rmE]; omega)) (by first | exact Nat.le_of_ble_eq_true rfl | (dsimp only [rmE]; omega)) (goI fun r36 G36 h36 => ?_)
      obtain ⟨rfl, rfl⟩ := h36
      refine gw_ior (q := 40) hc dX3_fed_39 rfl ?_
      rw [bts_or (h := fun y => decide (y = (k : Int)) || ((chL S k).take (i + 1)).any (fun c => thr S y (c : Int))) (fun y _ => by rw [List.take_succ, List.any_append, List.getElem?_eq_getElem (by omega : i < (chL S k).length), List.getD_eq_getElem?_getD, List.getElem?_eq_getElem (by omega : i < (chL S k).length)]; simp [Bool.or_assoc])]
      refine gw_istore_n (q := 41) hc dX3_fed_40 rfl rfl xs_1 (by decide) (n2p xg_0 rfl) ?_
      refine gw_iinc (q := 44) hc dX3_fed_41 rfl xg_2 xs_2 (by decide) (n2p xg_1 rfl) ?_
      refine gw_goto (q := 9) hc dX3_fed_44 (by decide) ?_
      exact ih9 (i + 1) (by omega) (by omega)

theorem mf_J2_isEmpty_7 : mF "java/util/ArrayList" ⟨"java/util/List", "isEmpty", "()Z"⟩ yJ2_isEmpty cJ2_isEmpty 1 (some FieldType.boolean) 0 := ⟨⟨by decide +kernel, by decide +kernel, by decide +kernel⟩, q543, q545, q77, q547, q542, q541, q546, q544, q235, by decide +kernel⟩
set_option maxHeartbeats 4000000 in
theorem m_X1_layPowers {l : Launch} {D : va_G} {X : Nat → Nat} {b0 : Nat} {tg : Nat → Nat} {hid : Nat} {A : Nat → Nat} {S W : Int → Int} {G : gM} (hH : hsR D X tg hid A S W G) {N : Int} (hW : rowW S N) : gMet l D X b0 yX1_layPowers cX1_layPowers 2 none (rmE 11 0 0) [.ref (A 0)] G (pV fun G' => ∃ W' : Int → Int, hsR D X tg hid A S W' G' ∧ (∀ y : Nat, (y : Int) < S 7 → W' y = pw S y) ∧ frH tg hid G G') := by
  refine gm_start (own := "EnergyDiscs$House") (lv := [some (.ref (A 0)), none]) (by decide +kernel) rfl (Nat.le_of_ble_eq_true rfl) rfl (fun p_ e_ s_ m_ args_ below_ meth_ c_ hc hnm => ?_)
  have h7 := rw_7 hW
  obtain ⟨mcm, arm, hmcm, hMc, hMa, -⟩ := alR_P hH.2.2.2.2.1
  refine gw_aload_n (q := 1) hc dX1_layPowers_0 rfl rfl xg_0 ?_
  refine gw_get (q := 4) hc dX1_layPowers_1 rfl cE_HO 1 (by decide) q144 (fun _ h => h) hH.2.2.1 rfl ?_
  refine gw_callF (q := 9) (bc' := 0) (bs' := 0) (As := []) hc dX1_layPowers_4 rfl cE_AL q557 mf_J2_isEmpty_7 rfl rfl (m_J2_isEmpty hMc (by omega)) (rc_o hc cE_AL hMc) ⟨Nat.le_of_ble_eq_true rfl, Nat.le_of_ble_eq_true rfl⟩ (Nat.le_of_ble_eq_true rfl) (Nat.le_of_ble_eq_true rfl) (Nat.le_of_ble_eq_true rfl) (goI fun r4 G4 h4 => ?_)
  obtain ⟨b4, rfl⟩ := h4
  refine gw_if_ne  (q := 12) (t := 29) hc dX1_layPowers_9 rfl (by decide) (by omega) (fun c9 => ?_) (fun c9 => ?_)
  · skip
    exact gw_vret hc dX1_layPowers_29 ⟨rfl, ⟨W, hH, fun y hy => by omega, frH_rf⟩⟩
  · obtain ⟨cap, f, hA1, hf1, hb1, hfi⟩ := alP_get hMa (i := 0) (by omega) (by omega)
    obtain ⟨hm0, -, -⟩ := hH.2.2.2.2.2.2.1 0 (by omega)
    refine gw_aload_n (q := 13) hc dX1_layPowers_12 rfl rfl xg_0 ?_
    refine gw_get (q := 16) hc dX1_layPowers_13 rfl cE_HO 1 (by decide) q144 (fun _ h => h) hH.2.2.1 rfl ?_
    refine gw_iconst (q := 17) hc dX1_layPowers_16 rfl ?_
    refine gw_callF (q := 22) (bc' := 0) (bs' := 0) (As := [_]) hc dX1_layPowers_17 rfl cE_AL q330 mf_J2_get_7 rfl rfl (m_J2_get hMc hA1 (by omega) (by omega) hfi) (rc_o hc cE_AL hMc) ⟨Nat.le_of_ble_eq_true rfl, Nat.le_of_ble_eq_true rfl⟩ (Nat.le_of_ble_eq_true rfl) (Nat.le_of_ble_eq_true rfl) (Nat.le_of_ble_eq_true rfl) (goA fun r17 G17 h17 => ?_)
    obtain ⟨rfl, rfl⟩ := h17
    refine gw_cast (q := 25) hc dX1_layPowers_22 rfl q321 (rc_o hc cE_ME hm0) ?_
    refine gw_callV (q := 28) (bc' := 0) (bs' := 0) (As := []) hc dX1_layPowers_25 rfl q645 mw_X3_layPower (rc_o hc cE_ME hm0) rfl rfl (m_X3_layPower hW 7 0 W _ (by omega) (by omega) hH) ⟨Nat.le_of_ble_eq_true rfl, Nat.le_of_ble_eq_true rfl⟩ (Nat.le_of_ble_eq_true rfl) (Nat.le_of_ble_eq_true rfl) (Nat.le_of_ble_eq_true rfl) (goI fun r25 G25 h25 => ?_)
    obtain ⟨rfl, hH3, hf3⟩ := h25
    refine gw_istore_n (q := 29) hc dX1_layPowers_28 rfl rfl xs_1 (by decide) (n2p xg_0 rfl) ?_
    exact gw_vret hc dX1_layPowers_29 ⟨rfl, ⟨_, hH3, fun y hy => if_pos (thr_0 hW.1.1 (y + 1) y (by omega) hy), frH_M hf3⟩⟩

