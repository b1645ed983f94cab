/-! ===== THE CLASS: the worst; houses made ===== -/
set_option maxRecDepth 100000
def mcF (S : Int → Int) (m : Int) : Int := S (11 + 13 * m + 5) - 6000 * (S (11 + 13 * m + 3) + S (11 + 13 * m + 4)) - S (11 + 13 * m + 1)
theorem mcF_ms {S : Int → Int} {m : Int} : msF S m = mcF S m + 10000000000 := by unfold msF mcF tnF; omega
/-- an empty house's row -/
def row0 : Int → Int := fun i => if i = 0 then 15 else if i = 1 then 2 else if i = 2 then 1 else if i = 3 then 1000 else if i = 4 then 9 else if i = 5 then 5 else 0
/-- an object is made: what was there stays, what is new is told apart by tags -/
def exG (G G' : gM) : Prop := ∀ q e, G q = some e → G' q = some e

theorem mw_X3_misses : mV "EnergyDiscs$Meter" yX3_misses cX3_misses 1 (some FieldType.long) 0 := ⟨⟨rfl, by decide +kernel, by decide +kernel, by decide +kernel⟩, q904, q905, q87, q906⟩
set_option maxHeartbeats 4000000 in
theorem m_X1_worst {l : Launch} {D : va_G} {X : Nat → Nat} {b0 : Nat} {tg : Nat → Nat} {hid : Nat} {A : Nat → Nat} {S W : Int → Int} {G : gM} (hH : hsR D X tg hid A S W G) {N : Int} (hW : rowW S N) : gMet l D X b0 yX1_worst cX1_worst 3 (some FieldType.int) (rmE 3 0 0) [.ref (A 0)] G (eI (woF S (S 7).toNat) G) := by
  refine gm_start (own := "EnergyDiscs$House") (lv := [some (.ref (A 0)), none, none]) (by decide +kernel) rfl (Nat.le_of_ble_eq_true rfl) rfl (fun p_ e_ s_ m_ args_ below_ meth_ c_ hc hnm => ?_)
  have h7 := rw_7 hW
  have h6 := rw_6 hW
  obtain ⟨mcm, arm, hmcm, hMc, hMa, -⟩ := alR_P hH.2.2.2.2.1
  refine gw_bipush (q := 2) hc dX1_worst_0 rfl (by decide) ?_
  refine gw_istore_n (q := 3) hc dX1_worst_2 rfl rfl xs_1 (by decide) (n2p xg_0 rfl) ?_
  refine gw_iconst (q := 4) hc dX1_worst_3 rfl ?_
  refine gw_istore_n (q := 5) hc dX1_worst_4 rfl rfl xs_2 (by decide) (n2p xg_1 rfl) ?_
  refine gw_loop (σ := Nat) (fun x => (x : Int) ≤ S 7) (fun x => (S 7 - x).toNat) (fun x => G) (fun x => [some (.ref (A 0)), some (.int (iI (woF S x))), some (.int (iI (x : Int)))]) ?_ 0 h7.1
  rintro k hI5 ih5
  try dsimp only at hI5 ⊢
  have hwo := woF_r (S := S) k
  refine gw_iload_n (q := 6) hc dX1_worst_5 rfl rfl xg_2 ?_
  refine gw_aload_n (q := 7) hc dX1_worst_6 rfl rfl xg_0 ?_
  refine gw_get (q := 10) hc dX1_worst_7 rfl cE_HO 1 (by decide) q144 (fun _ h => h) hH.2.2.1 rfl ?_
  refine gw_callF (q := 15) (bc' := 0) (bs' := 0) (As := []) hc dX1_worst_10 rfl cE_AL q328 mf_J2_size_7 rfl rfl (m_J2_size hMc) (rc_o hc cE_AL hMc) ⟨Nat.le_of_ble_eq_true rfl, Nat.le_of_ble_eq_true rfl⟩ (Nat.le_of_ble_eq_true rfl) (Nat.le_of_ble_eq_true rfl) (Nat.le_of_ble_eq_true rfl) (goI fun r10 G10 h10 => ?_)
  obtain ⟨rfl, hgg⟩ := h10
  rw [hgg]
  refine gw_icmp_ge  (q := 18) (t := 70) hc dX1_worst_15 rfl (by decide) (by omega) (by omega) (fun c15 => ?_) (fun c15 => ?_)
  · skip
    refine gw_iload_n (q := 71) hc dX1_worst_70 rfl rfl xg_1 ?_
    exact gw_iret hc dX1_worst_71 ⟨_, rfl, ⟨by rw [show k = (S 7).toNat by omega], rfl⟩⟩
  · skip
    refine gw_iload_n (q := 19) hc dX1_worst_18 rfl rfl xg_1 ?_
    refine gw_if_lt  (q := 22) (t := 58) hc dX1_worst_19 rfl (by decide) (by omega) (fun c19 => ?_) (fun c19 => ?_)
    · skip
      refine gw_iload_n (q := 59) hc dX1_worst_58 rfl rfl xg_2 ?_
      refine gw_goto (q := 63) hc dX1_worst_59 (by decide) ?_
      refine gw_istore_n (q := 64) hc dX1_worst_63 rfl rfl xs_1 (by decide) (n2p xg_0 rfl) ?_
      refine gw_lv (show _ = [some (.ref (A 0)), some (.int (iI (woF S (k + 1)))), some (.int (iI (k : Int)))] from by rw [show woF S (k + 1) = (k : Int) from if_pos (Or.inl (by omega))]) ?_
      refine gw_iinc (q := 67) hc dX1_worst_64 rfl xg_2 xs_2 (by decide) (n2p xg_1 rfl) ?_
      refine gw_goto (q := 5) hc dX1_worst_67 (by decide) ?_
      exact ih5 (k + 1) (by omega) (by omega)
    · obtain ⟨b, hbe⟩ : ∃ b : Nat, woF S k = b := ⟨(woF S k).toNat, by omega⟩
      rw [hbe]
      obtain ⟨cap, f, hA1, hf1, hb1, hfi⟩ := alP_get hMa (i := (k : Int)) (by omega) (by omega)
      obtain ⟨cap2, f2, hA2, hf2, hb2, hfi2⟩ := alP_get hMa (i := (b : Int)) (by omega) (by omega)
      obtain ⟨hmk, -, -⟩ := hH.2.2.2.2.2.2.1 k (by omega)
      obtain ⟨hmb, -, -⟩ := hH.2.2.2.2.2.2.1 b (by omega)
      have hk1 := rw_m hW k (by omega) (by omega)
      have hb3 := rw_m hW b (by omega) (by omega)
      refine gw_aload_n (q := 23) hc dX1_worst_22 rfl rfl xg_0 ?_
      refine gw_get (q := 26) hc dX1_worst_23 rfl cE_HO 1 (by decide) q144 (fun _ h => h) hH.2.2.1 rfl ?_
      refine gw_iload_n (q := 27) hc dX1_worst_26 rfl rfl xg_2 ?_
      refine gw_callF (q := 32) (bc' := 0) (bs' := 0) (As := [_]) hc dX1_worst_27 rfl cE_AL q330 mf_J2_get_7 rfl rfl (m_J2_get hMc hA1 (by omega) (by omega) hfi) (rc_o hc cE_AL hMc) ⟨Nat.le_of_ble_eq_true rfl, Nat.le_of_ble_eq_true rfl⟩ (Nat.le_of_ble_eq_true rfl) (Nat.le_of_ble_eq_true rfl) (Nat.le_of_ble_eq_true rfl) (goA fun r27 G27 h27 => ?_)
      obtain ⟨rfl, hgg⟩ := h27
      rw [hgg]
      refine gw_cast (q := 35) hc dX1_worst_32 rfl q321 (rc_o hc cE_ME hmk) ?_
      refine gw_callV (q := 38) (bc' := 0) (bs' := 0) (As := []) hc dX1_worst_35 rfl q986 mw_X3_misses (rc_o hc cE_ME hmk) rfl rfl (m_X3_misses hmk (by omega) (by omega)) ⟨Nat.le_of_ble_eq_true rfl, Nat.le_of_ble_eq_true rfl⟩ (Nat.le_of_ble_eq_true rfl) (Nat.le_of_ble_eq_true rfl) (Nat.le_of_ble_eq_true rfl) (goJ fun r35 G35 h35 => ?_)
      obtain ⟨rfl, hgg⟩ := h35
      rw [hgg]
      refine gw_aload_n (q := 39) hc dX1_worst_38 rfl rfl xg_0 ?_
      refine gw_get (q := 42) hc dX1_worst_39 rfl cE_HO 1 (by decide) q144 (fun _ h => h) hH.2.2.1 rfl ?_
      refine gw_iload_n (q := 43) hc dX1_worst_42 rfl rfl xg_1 ?_
      refine gw_callF (q := 48) (bc' := 0) (bs' := 0) (As := [_]) hc dX1_worst_43 rfl cE_AL q330 mf_J2_get_7 rfl rfl (m_J2_get hMc hA2 (by omega) (by omega) hfi2) (rc_o hc cE_AL hMc) ⟨Nat.le_of_ble_eq_true rfl, Nat.le_of_ble_eq_true rfl⟩ (Nat.le_of_ble_eq_true rfl) (Nat.le_of_ble_eq_true rfl) (Nat.le_of_ble_eq_true rfl) (goA fun r43 G43 h43 => ?_)
      obtain ⟨rfl, hgg⟩ := h43
      rw [hgg]
      refine gw_cast (q := 51) hc dX1_worst_48 rfl q321 (rc_o hc cE_ME hmb) ?_
      refine gw_callV (q := 54) (bc' := 0) (bs' := 0) (As := []) hc dX1_worst_51 rfl q986 mw_X3_misses (rc_o hc cE_ME hmb) rfl rfl (m_X3_misses hmb (by omega) (by omega)) ⟨Nat.le_of_ble_eq_true rfl, Nat.le_of_ble_eq_true rfl⟩ (Nat.le_of_ble_eq_true rfl) (Nat.le_of_ble_eq_true rfl) (Nat.le_of_ble_eq_true rfl) (goJ fun r51 G51 h51 => ?_)
      obtain ⟨rfl, hgg⟩ := h51
      rw [hgg]
      refine gw_lcmp (q := 55) hc dX1_worst_54 rfl (by omega) (by omega) ?_
      refine gw_ifc_le  (q := 58) (t := 62) hc dX1_worst_55 rfl (by decide)  (fun c55 => ?_) (fun c55 => ?_)
      · have hcc : mcF S k ≤ mcF S b := by unfold mcF; omega
        rw [← hbe]
        refine gw_iload_n (q := 63) hc dX1_worst_62 rfl rfl xg_1 ?_
        refine gw_istore_n (q := 64) hc dX1_worst_63 rfl rfl xs_1 (by decide) (n2p xg_0 rfl) ?_
        refine gw_lv (show _ = [some (.ref (A 0)), some (.int (iI (woF S (k + 1)))), some (.int (iI (k : Int)))] from by rw [show woF S (k + 1) = woF S k from if_neg (fun z => by rcases z with z | z; omega; (rw [mcF_ms, mcF_ms, hbe] at z; omega))]) ?_
        refine gw_iinc (q := 67) hc dX1_worst_64 rfl xg_2 xs_2 (by decide) (n2p xg_1 rfl) ?_
        refine gw_goto (q := 5) hc dX1_worst_67 (by decide) ?_
        exact ih5 (k + 1) (by omega) (by omega)
      · have hcc : mcF S b < mcF S k := by unfold mcF; omega
        rw [← hbe]
        refine gw_iload_n (q := 59) hc dX1_worst_58 rfl rfl xg_2 ?_
        refine gw_goto (q := 63) hc dX1_worst_59 (by decide) ?_
        refine gw_istore_n (q := 64) hc dX1_worst_63 rfl rfl xs_1 (by decide) (n2p xg_0 rfl) ?_
        refine gw_lv (show _ = [some (.ref (A 0)), some (.int (iI (woF S (k + 1)))), some (.int (iI (k : Int)))] from by rw [show woF S (k + 1) = (k : Int) from if_pos (Or.inr (by rw [mcF_ms, mcF_ms, hbe]; omega))]) ?_
        refine gw_iinc (q := 67) hc dX1_worst_64 rfl xg_2 xs_2 (by decide) (n2p xg_1 rfl) ?_
        refine gw_goto (q := 5) hc dX1_worst_67 (by decide) ?_
        exact ih5 (k + 1) (by omega) (by omega)

