/-! ===== THE CLASS: texts ===== -/
set_option maxRecDepth 100000
theorem sb_E {D : va_G} {tg : Nat → Nat} {pid a : Nat} {n n' : Int} {F F' : Int → Int} {G : gM} (h : sbR D tg pid a n F G) (hn : n' = n) (hF : ∀ i, 0 ≤ i → i < n → F' i = F i) : sbR D tg pid a n' F' G := by
  obtain ⟨vl, mb, cap, f, h1, h2, h3, h4, h5, h6, h7⟩ := h
  subst hn
  exact ⟨vl, mb, cap, f, h1, h2, h3, h4, h5, h6, fun i a b => by rw [h7 i a b, hF i a b]⟩
theorem wr_4 {Pd : Int → Int} {a b c d : List Int} {x y z : Int} {na nb nc : Nat} (ha : a.length = na) (hb : b.length = nb) (hc : c.length = nc) :
    wr Pd 0 ((x :: a) ++ (y :: b) ++ (z :: c) ++ d) = wr (wr (fu (wr (fu (wr (fu Pd 0 x) (0 + 1) a) (0 + 1 + na) y) (0 + 1 + na + 1) b) (0 + 1 + na + 1 + nb) z) (0 + 1 + na + 1 + nb + 1) c) (0 + 1 + na + 1 + nb + 1 + nc) d := by
  rw [← wr_app, ← wr_app, ← wr_app]
  have e1 : (0 : Int) + ((x :: a).length : Int) = 0 + 1 + na := by rw [List.length_cons, ha]; omega
  have e2 : (0 : Int) + ((x :: a ++ y :: b).length : Int) = 0 + 1 + na + 1 + nb := by rw [List.length_append, List.length_cons, List.length_cons, ha, hb]; omega
  have e3 : (0 : Int) + ((x :: a ++ y :: b ++ z :: c).length : Int) = 0 + 1 + na + 1 + nb + 1 + nc := by rw [List.length_append, List.length_append, List.length_cons, List.length_cons, List.length_cons, ha, hb, hc]; omega
  rw [e1, e2, e3]
  rfl
/-! the bytes of a long -/
def rst (v : Int64) (n : Nat) : Int64 := Int64.ofBitVec (v.toBitVec >>> (8 * n))
theorem rst_0 {v : Int64} : rst v 0 = v := by
  unfold rst
  rw [show 8 * 0 = 0 from rfl, BitVec.ushiftRight_zero]
  rfl
theorem rst_s {v : Int64} {n : Nat} : ((rst v n).toUInt64 >>> ((iI 8).toInt64.toUInt64 &&& Int64.toUInt64 63)).toInt64 = rst v (n + 1) := by
  apply Int64.toBitVec_inj.mp
  have e : (iI 8).toInt64.toUInt64 &&& Int64.toUInt64 63 = 8 := by decide
  rw [e]
  show ((rst v n).toUInt64 >>> 8).toBitVec = _
  rw [UInt64.toBitVec_shiftRight]
  show (v.toBitVec >>> (8 * n)) >>> 8 = v.toBitVec >>> (8 * (n + 1))
  rw [show 8 * (n + 1) = 8 * n + 8 by omega, BitVec.shiftRight_add]
theorem sshr_k {v : Int64} {n : Nat} (h : n < 8) : (v >>> ((iI (8 * (n : Int))).toInt64 &&& 63)).toBitVec = v.toBitVec.sshiftRight (8 * n) := by
  rcases (by omega : n = 0 ∨ n = 1 ∨ n = 2 ∨ n = 3 ∨ n = 4 ∨ n = 5 ∨ n = 6 ∨ n = 7) with rfl | rfl | rfl | rfl | rfl | rfl | rfl | rfl <;> (rw [Int64.toBitVec_shiftRight]; rfl)
theorem rst_and {v : Int64} {n : Nat} (h : n < 8) : rst v n &&& jI 255 = jI (byF v n) := by
  unfold byF
  rw [← jI_of]
  apply Int64.toBitVec_inj.mp
  rw [Int64.toBitVec_and, Int64.toBitVec_and, sshr_k h]
  show (v.toBitVec >>> (8 * n)) &&& 255#64 = v.toBitVec.sshiftRight (8 * n) &&& 255#64
  apply BitVec.eq_of_getLsbD_eq
  intro i hi
  rw [BitVec.getLsbD_and, BitVec.getLsbD_and, BitVec.getLsbD_ushiftRight, BitVec.getLsbD_sshiftRight]
  by_cases h8 : i < 8
  · rw [if_pos (by omega)]
    simp [show ¬ 64 ≤ i by omega]
  · have : (255#64).getLsbD i = false := by
      have key : ∀ i, i < 64 → ¬ i < 8 → (255#64).getLsbD i = false := by decide
      exact key i hi h8
    rw [this, Bool.and_false, Bool.and_false]
theorem rst_n {v : Int64} {n : Nat} : (rst v n).toBitVec.toNat = v.toBitVec.toNat / 2 ^ (8 * n) := by
  show (v.toBitVec >>> (8 * n)).toNat = _
  rw [BitVec.toNat_ushiftRight, Nat.shiftRight_eq_div_pow]
theorem rst_z {v : Int64} {n : Nat} : (rst v n).toInt = 0 ↔ v.toBitVec.toNat / 2 ^ (8 * n) = 0 := by
  rw [← rst_n]
  constructor
  · intro h
    have e : rst v n = 0 := Int64.toInt_inj.mp h
    rw [e]; rfl
  · intro h
    have e : (rst v n).toBitVec = 0#64 := BitVec.eq_of_toNat_eq h
    show (rst v n).toBitVec.toInt = 0
    rw [e]; rfl
theorem byF_n {v : Int64} {n : Nat} (h : n < 8) : byF v n = ((v.toBitVec.toNat / 2 ^ (8 * n) % 256 : Nat) : Int) := by
  have h1 := rst_and (v := v) h
  have h2 : (rst v n &&& jI 255).toBitVec.toNat = v.toBitVec.toNat / 2 ^ (8 * n) % 256 := by
    rw [Int64.toBitVec_and, show (jI 255).toBitVec = 255#64 from rfl, BitVec.toNat_and, rst_n]
    exact Nat.and_two_pow_sub_one_eq_mod _ 8
  have h3 : (rst v n &&& jI 255).toInt = byF v n := by rw [h1]; exact jI_toInt ⟨by have := by_r v n; omega, by have := by_r v n; omega⟩
  rw [← h3]
  show (rst v n &&& jI 255).toBitVec.toInt = _
  rw [BitVec.toInt_eq_toNat_cond, h2, if_pos (by omega)]
theorem rst_d {v : Int64} {n : Nat} (h : n < 8) : (rst v n).toInt = 0 ↔ byF v n = 0 ∧ (rst v (n + 1)).toInt = 0 := by
  rw [rst_z, rst_z, byF_n h, show 2 ^ (8 * (n + 1)) = 2 ^ (8 * n) * 256 by rw [show 8 * (n + 1) = 8 * n + 8 by omega, Nat.pow_add], ← Nat.div_div_eq_div_mul]
  omega
theorem rst_8 {v : Int64} : (rst v 8).toInt = 0 := by
  rw [rst_z]
  exact Nat.div_eq_of_lt v.toBitVec.isLt
/-- the first n bytes are signs -/
def pOk (v : Int64) (n : Nat) : Prop := ∀ j, j < n → 33 ≤ byF v j ∧ byF v j ≤ 126
theorem pOk_p {v : Int64} : ∀ n, pOk v n → pE v n = 0 ∧ pM v n = n ∧ pR v n = 1
  | 0, _ => ⟨rfl, rfl, rfl⟩
  | n + 1, h => by
    obtain ⟨a, b, c⟩ := pOk_p n (fun j hj => h j (by omega))
    have hb := h n (by omega)
    have e : pE v (n + 1) = 0 := by simp only [pE]; rw [if_neg (by omega)]
    refine ⟨e, ?_, ?_⟩
    · simp only [pM]; rw [e, if_pos rfl, b]; push_cast; rfl
    · simp only [pR]; rw [c, if_neg (by omega), if_neg (by simpa [pE] using e), if_pos hb]
theorem pR_st {v : Int64} {n : Nat} (h : pR v n = 0) : ∀ k, pR v (n + k) = 0
  | 0 => h
  | k + 1 => by
    rw [show n + (k + 1) = (n + k) + 1 by omega]
    simp only [pR]
    rw [if_pos (pR_st h k)]
/-- a byte that is no sign -/
theorem pu_bad {v : Int64} {n : Nat} {ln : Int} (h : pOk v n) (hn : n < 8) (h0 : byF v n ≠ 0) (hb : ¬ (33 ≤ byF v n ∧ byF v n ≤ 126)) : puF v ln = -2 := by
  obtain ⟨a, b, c⟩ := pOk_p n h
  have e : pE v (n + 1) = 0 := by simp only [pE]; rw [if_neg (by omega)]
  have : pR v (n + 1) = 0 := by
    show (if pR v n = 0 then 0 else if pE v (n + 1) ≠ 0 then (if byF v n = 0 then 1 else 0) else if 33 ≤ byF v n ∧ byF v n ≤ 126 then 1 else 0) = 0
    rw [c, if_neg (by omega), if_neg (by omega), if_neg hb]
  have := pR_st this (7 - n)
  rw [show n + 1 + (7 - n) = 8 by omega] at this
  unfold puF
  rw [if_pos (Or.inl this)]
/-- behind the end -/
theorem pE_end {v : Int64} {n : Nat} (h : pOk v n) (hn : n < 8) (h0 : byF v n = 0) : ∀ k, pE v (n + 1 + k) = 1 ∧ pM v (n + 1 + k) = n
  | 0 => by
    obtain ⟨a, b, c⟩ := pOk_p n h
    have e : pE v (n + 1) = 1 := by simp only [pE]; rw [if_pos (Or.inr h0)]
    exact ⟨e, by show pM v n + (if pE v (n + 1) = 0 then 1 else 0) = n; rw [e, b]; simp⟩
  | k + 1 => by
    obtain ⟨a, b⟩ := pE_end h hn h0 k
    have e : pE v (n + 1 + k + 1) = 1 := by simp only [pE]; rw [if_pos (Or.inl (by omega))]
    exact ⟨e, by show pM v (n + 1 + k) + (if pE v (n + 1 + k + 1) = 0 then 1 else 0) = n; rw [e, b]; simp⟩
theorem pR_end {v : Int64} {n : Nat} (h : pOk v n) (hn : n < 8) (h0 : byF v n = 0) : ∀ k, pR v (n + 1 + k) = if ∀ j, j < k → byF v (n + 1 + j) = 0 then 1 else 0
  | 0 => by
    obtain ⟨a, b, c⟩ := pOk_p n h
    rw [if_pos (fun j hj => by omega)]
    have e := (pE_end h hn h0 0).1
    show (if pR v n = 0 then 0 else if pE v (n + 1) ≠ 0 then (if byF v n = 0 then 1 else 0) else if 33 ≤ byF v n ∧ byF v n ≤ 126 then 1 else 0) = 1
    rw [c, if_neg (by omega), if_pos (by rw [show n + 1 = n + 1 + 0 from rfl, e]; omega), if_pos h0]
  | k + 1 => by
    have ih := pR_end h hn h0 k
    have e := (pE_end h hn h0 (k + 1)).1
    show (if pR v (n + 1 + k) = 0 then 0 else if pE v (n + 1 + (k + 1)) ≠ 0 then (if byF v (n + 1 + k) = 0 then 1 else 0) else if 33 ≤ byF v (n + 1 + k) ∧ byF v (n + 1 + k) ≤ 126 then 1 else 0) = _
    rw [ih, e]
    by_cases q : ∀ j, j < k → byF v (n + 1 + j) = 0
    · rw [if_pos q]
      by_cases z : byF v (n + 1 + k) = 0
      · rw [if_neg (by omega), if_pos (by omega), if_pos z, if_pos (fun j hj => by
          by_cases y : j = k
          · rw [y]; exact z
          · exact q j (by omega))]
      · rw [if_neg (by omega), if_pos (by omega), if_neg z, if_neg (fun y => z (y k (by omega)))]
    · rw [if_neg q, if_pos rfl, if_neg (fun y => q (fun j hj => y j (by omega)))]
theorem rst_all {v : Int64} {n : Nat} : ∀ k, n + k = 8 → ((rst v n).toInt = 0 ↔ ∀ j, j < k → byF v (n + j) = 0)
  | 0, h => by
    obtain rfl : n = 8 := by omega
    exact ⟨fun _ j hj => by omega, fun _ => rst_8⟩
  | k + 1, h => by
    rw [rst_d (by omega), rst_all k (by omega)]
    constructor
    · rintro ⟨a, b⟩ j hj
      cases j with
      | zero => exact a
      | succ j => have := b j (by omega); rwa [show n + 1 + j = n + (j + 1) by omega] at this
    · intro a
      exact ⟨a 0 (by omega), fun j hj => by have := a (j + 1) (by omega); rwa [show n + (j + 1) = n + 1 + j by omega] at this⟩
/-- the end of the signs, n of them -/
theorem pu_end {v : Int64} {n : Nat} (h : pOk v n) (hn : n ≤ 8) (h0 : n = 8 ∨ byF v n = 0) : pM v 8 = n ∧ (pR v 8 = 0 ↔ (rst v n).toInt ≠ 0) := by
  by_cases e : n = 8
  · subst e
    obtain ⟨a, b, c⟩ := pOk_p 8 h
    exact ⟨b, by rw [c]; exact ⟨fun z => by omega, fun z => absurd rst_8 z⟩⟩
  · have h0 : byF v n = 0 := by omega
    have p := pE_end h (by omega) h0 (7 - n)
    have r := pR_end h (by omega) h0 (7 - n)
    rw [show n + 1 + (7 - n) = 8 by omega] at p r
    refine ⟨p.2, ?_⟩
    rw [r, show ((rst v n).toInt ≠ 0) ↔ ¬ (byF v n = 0 ∧ ∀ j, j < 7 - n → byF v (n + 1 + j) = 0) from not_congr ((rst_d (by omega)).trans (and_congr Iff.rfl (rst_all (7 - n) (by omega))))]
    by_cases q : ∀ j, j < 7 - n → byF v (n + 1 + j) = 0
    · rw [if_pos q]
      exact ⟨fun z => by omega, fun z => absurd ⟨h0, q⟩ z⟩
    · rw [if_neg q]
      exact ⟨fun _ z => q z.2, fun _ => rfl⟩

theorem wr_e7 {F : Int → Int} {n i : Int} : fu F n 33 i = cpF (txF 7) F 0 n 1 i := by
  unfold cpF
  by_cases e : i = n
  · rw [e, fu_s, if_pos (by omega), show (0 : Int) + (n - n) = 0 by omega]; rfl
  · rw [fu_n e, if_neg (by omega)]
theorem wr_e6 {F : Int → Int} {n i : Int} : F i = cpF (txF 6) F 0 n 0 i := by
  unfold cpF
  rw [if_neg (by omega)]
theorem mw_J4_append : mV "java/lang/StringBuilder" yJ4_append cJ4_append 2 (some (FieldType.object "java/lang/StringBuilder")) 1 := ⟨⟨rfl, by decide +kernel, by decide +kernel, by decide +kernel⟩, q730, q731, q79, q732⟩
theorem mw_J4_append_2 : mV "java/lang/StringBuilder" yJ4_append_2 cJ4_append_2 2 (some (FieldType.object "java/lang/StringBuilder")) 1 := ⟨⟨rfl, by decide +kernel, by decide +kernel, by decide +kernel⟩, q783, q784, q79, q785⟩
theorem mw_J4_append_3 : mV "java/lang/StringBuilder" yJ4_append_3 cJ4_append_3 2 (some (FieldType.object "java/lang/StringBuilder")) 1 := ⟨⟨rfl, by decide +kernel, by decide +kernel, by decide +kernel⟩, q819, q820, q79, q821⟩
set_option maxHeartbeats 4000000 in
theorem m_X0_write {l : Launch} {D : va_G} {X : Nat → Nat} {b0 : Nat} {tg : Nat → Nat} {e nid pl sv pd : Nat} {h : Int → Nat} {A : Int → Nat → Nat} {S P L V Pd : Int → Int} {kn ln N : Int} {G : gM} (hC : edC D X tg e nid pl sv pd h A S P kn L V Pd ln G) (hW : rowW S N) (hn : nid < 890) (hN : N < 2147483648) {m : Int} (hm : rI m) : gMet l D X b0 yX0_write cX0_write 3 (some FieldType.int) (rmE 6 7 1260) [.ref e, .int (iI m)] G (pI fun r G' => (¬ (0 ≤ m ∧ m < S 7) ∧ r = -1 ∧ G' = G) ∨ ((0 ≤ m ∧ m < S 7) ∧ r = ((wrL S m).length : Int) ∧ ∃ tg' : Nat → Nat, frE tg tg' G G' ∧ edR D X tg' e nid S P kn L V (wr Pd 0 (wrL S m)) ((wrL S m).length : Int) G')) := by
  refine gm_start (own := "EnergyDiscs") (lv := [some (.ref e), some (.int (iI m)), none]) (by decide +kernel) rfl (Nat.le_of_ble_eq_true rfl) rfl (fun p_ e_ s_ m_ args_ below_ meth_ c_ hc hnm => ?_)
  obtain ⟨hlt, W, hH⟩ := ed_H hC
  obtain ⟨mcm, arm, hmcm, hMc, hMa, -⟩ := alR_P hH.2.2.2.2.1
  obtain ⟨mcl, arl, hmcl, hLc, hLa, -⟩ := alR_P hH.2.2.2.2.2.1
  have hb := hH.1
  obtain ⟨vl, mb, cap, f, hG, hV, htp, hcap, hmb, hB, hf⟩ := hC.2.2.2.2.2.2
  refine gw_aload_n (q := 1) hc dX0_write_0 rfl rfl xg_0 ?_
  refine gw_iload_n (q := 2) hc dX0_write_1 rfl rfl xg_1 ?_
  refine gw_callV (q := 5) (bc' := 7) (bs' := 1260) (As := [_]) hc dX0_write_2 rfl q548 mw_X0_isMeter (rc_o hc cE_ED hC.1.1) rfl rfl (m_X0_isMeter hC hm) ⟨Nat.le_of_ble_eq_true rfl, Nat.le_of_ble_eq_true rfl⟩ (Nat.le_of_ble_eq_true rfl) (Nat.le_of_ble_eq_true rfl) (Nat.le_of_ble_eq_true rfl) (goI fun r2 G2 h2 => ?_)
  obtain ⟨b2, hgg⟩ := h2
  rw [hgg]
  refine gw_if_ne  (q := 8) (t := 10) hc dX0_write_5 rfl (by decide) (by omega) (fun c5 => ?_) (fun c5 => ?_)
  · obtain ⟨k, rfl⟩ : ∃ k : Nat, m = k := ⟨m.toNat, by omega⟩
    have hk7 : (k : Int) < S 7 := by omega
    have hmt := (hH.2.2.2.2.2.2.1 k hk7).1
    have hmw := rm_k hW k hk7
    have htk : tg (A (-1) (10 + k)) = 100 * h (-1) + (10 + k) := hH.2.1 _ (us_m hk7)
    have hme := hC.1.1
    have hte := hC.1.2.1
    have hn1 := nd_bd (v := S (11 + 13 * (k : Int) + 3))
    have hn2 := nd_bd (v := S (11 + 13 * (k : Int) + 4))
    have hn3 := nd_bd (v := S (11 + 13 * (k : Int) + 6))
    refine gw_aload_n (q := 11) hc dX0_write_10 rfl rfl xg_0 ?_
    refine gw_iload_n (q := 12) hc dX0_write_11 rfl rfl xg_1 ?_
    refine gw_callV (q := 15) (bc' := 7) (bs' := 1260) (As := [_]) hc dX0_write_12 rfl q599 mw_X0_meterAt (rc_o hc cE_ED hC.1.1) rfl rfl (m_X0_meterAt hC (by omega)) ⟨Nat.le_of_ble_eq_true rfl, Nat.le_of_ble_eq_true rfl⟩ (Nat.le_of_ble_eq_true rfl) (Nat.le_of_ble_eq_true rfl) (Nat.le_of_ble_eq_true rfl) (goA fun r12 G12 h12 => ?_)
    obtain ⟨er12, hgg⟩ := h12
    rw [hgg, er12]
    refine gw_astore_n (q := 16) hc dX0_write_15 rfl rfl xs_2 (by decide) (n2p xg_1 rfl) ?_
    refine gw_aload_n (q := 17) hc dX0_write_16 rfl rfl xg_0 ?_
    refine gw_get (q := 20) hc dX0_write_17 rfl cE_ED 3 (by decide) q202 (fun _ h => h) hC.1.1 rfl ?_
    refine gw_iconst (q := 21) hc dX0_write_20 rfl ?_
    refine gw_callV (q := 24) (bc' := 7) (bs' := 1260) (As := [_]) hc dX0_write_21 rfl q684 mw_J4_setLength (rc_o hc cE_SB hG) rfl rfl (m_J4_setLength hC.2.2.2.2.2.2) ⟨Nat.le_of_ble_eq_true rfl, Nat.le_of_ble_eq_true rfl⟩ (Nat.le_of_ble_eq_true rfl) (Nat.le_of_ble_eq_true rfl) (Nat.le_of_ble_eq_true rfl) (goV fun G21 h21 => ?_)
    obtain ⟨ht1, hs1⟩ := h21
    obtain ⟨tg1, etg1⟩ : ∃ tg1 : Nat → Nat, tg1 = tg := ⟨_, rfl⟩
    rw [← etg1] at hs1
    have ht1 : tgR tg tg1 996 G G21 := by rw [etg1]; exact ht1
    have hR1 := hs1 Pd
    have hmt1 := ht1.2.1 _ _ hmt (by omega) (by omega)
    have htk1 : tg1 (A (-1) (10 + k)) = 100 * h (-1) + (10 + k) := by rw [ht1.1 _ (nn_s hmt) (by omega)]; exact htk
    have hme1 := ht1.2.1 _ _ hme (by omega) (by omega)
    have hte1 : tg1 e = 99500 := by rw [ht1.1 _ (nn_s hme) (by omega)]; exact hte
    obtain ⟨vl1, mb1, cap1, f1, hG1, -⟩ := id hR1
    have htt1 := ht1
    refine gw_aload_n (q := 25) hc dX0_write_24 rfl rfl xg_0 ?_
    refine gw_get (q := 28) hc dX0_write_25 rfl cE_ED 3 (by decide) q202 (fun _ h => h) hme1 rfl ?_
    refine gw_bipush (q := 30) hc dX0_write_28 rfl (by decide) ?_
    refine gw_callV (q := 33) (bc' := 6) (bs' := 1080) (As := [_]) hc dX0_write_30 rfl q729 mw_J4_append (rc_o hc cE_SB hG1) rfl rfl (m_J4_append hR1 (by omega) (by omega)) ⟨Nat.le_of_ble_eq_true rfl, Nat.le_of_ble_eq_true rfl⟩ (Nat.le_of_ble_eq_true rfl) (Nat.le_of_ble_eq_true rfl) (Nat.le_of_ble_eq_true rfl) (goA fun r30 G30 h30 => ?_)
    obtain ⟨er30, tg2, ht2, hR2⟩ := h30
    rw [er30]
    have hmt2 := ht2.2.1 _ _ hmt1 (by omega) (by omega)
    have htk2 : tg2 (A (-1) (10 + k)) = 100 * h (-1) + (10 + k) := by rw [ht2.1 _ (nn_s hmt1) (by omega)]; exact htk1
    have hme2 := ht2.2.1 _ _ hme1 (by omega) (by omega)
    have hte2 : tg2 e = 99500 := by rw [ht2.1 _ (nn_s hme1) (by omega)]; exact hte1
    obtain ⟨vl2, mb2, cap2, f2, hG2, -⟩ := id hR2
    have htt2 := tgR_tr (by omega) htt1 ht2
    refine gw_aload_n (q := 34) hc dX0_write_33 rfl rfl xg_2 ?_
    refine gw_getN (q := 37) hc dX0_write_34 rfl cE_ME 8 (by decide) q431 (fun _ h => h) hmt2 rfl ?_
    refine gw_callV (q := 40) (bc' := 5) (bs' := 900) (As := [_]) hc dX0_write_37 rfl q782 mw_J4_append_2 (rc_o hc cE_SB hG2) rfl rfl (m_J4_append_2 hR2 ⟨by omega, by omega⟩ (by omega)) ⟨Nat.le_of_ble_eq_true rfl, Nat.le_of_ble_eq_true rfl⟩ (Nat.le_of_ble_eq_true rfl) (Nat.le_of_ble_eq_true rfl) (Nat.le_of_ble_eq_true rfl) (goA fun r37 G37 h37 => ?_)
    obtain ⟨er37, tg3, ht3, hR3⟩ := h37
    rw [er37]
    have hmt3 := ht3.2.1 _ _ hmt2 (by omega) (by omega)
    have htk3 : tg3 (A (-1) (10 + k)) = 100 * h (-1) + (10 + k) := by rw [ht3.1 _ (nn_s hmt2) (by omega)]; exact htk2
    have hme3 := ht3.2.1 _ _ hme2 (by omega) (by omega)
    have hte3 : tg3 e = 99500 := by rw [ht3.1 _ (nn_s hme2) (by omega)]; exact hte2
    obtain ⟨vl3, mb3, cap3, f3, hG3, -⟩ := id hR3
    have htt3 := tgR_tr (by omega) htt2 ht3
    refine gw_bipush (q := 42) hc dX0_write_40 rfl (by decide) ?_
    refine gw_callV (q := 45) (bc' := 4) (bs' := 720) (As := [_]) hc dX0_write_42 rfl q729 mw_J4_append (rc_o hc cE_SB hG3) rfl rfl (m_J4_append hR3 (by omega) (by omega)) ⟨Nat.le_of_ble_eq_true rfl, Nat.le_of_ble_eq_true rfl⟩ (Nat.le_of_ble_eq_true rfl) (Nat.le_of_ble_eq_true rfl) (Nat.le_of_ble_eq_true rfl) (goA fun r42 G42 h42 => ?_)
    obtain ⟨er42, tg4, ht4, hR4⟩ := h42
    rw [er42]
    have hmt4 := ht4.2.1 _ _ hmt3 (by omega) (by omega)
    have htk4 : tg4 (A (-1) (10 + k)) = 100 * h (-1) + (10 + k) := by rw [ht4.1 _ (nn_s hmt3) (by omega)]; exact htk3
    have hme4 := ht4.2.1 _ _ hme3 (by omega) (by omega)
    have hte4 : tg4 e = 99500 := by rw [ht4.1 _ (nn_s hme3) (by omega)]; exact hte3
    obtain ⟨vl4, mb4, cap4, f4, hG4, -⟩ := id hR4
    have htt4 := tgR_tr (by omega) htt3 ht4
    refine gw_aload_n (q := 46) hc dX0_write_45 rfl rfl xg_2 ?_
    refine gw_getN (q := 49) hc dX0_write_46 rfl cE_ME 9 (by decide) q434 (fun _ h => h) hmt4 rfl ?_
    refine gw_callV (q := 52) (bc' := 3) (bs' := 540) (As := [_]) hc dX0_write_49 rfl q782 mw_J4_append_2 (rc_o hc cE_SB hG4) rfl rfl (m_J4_append_2 hR4 ⟨by omega, by omega⟩ (by omega)) ⟨Nat.le_of_ble_eq_true rfl, Nat.le_of_ble_eq_true rfl⟩ (Nat.le_of_ble_eq_true rfl) (Nat.le_of_ble_eq_true rfl) (Nat.le_of_ble_eq_true rfl) (goA fun r49 G49 h49 => ?_)
    obtain ⟨er49, tg5, ht5, hR5⟩ := h49
    rw [er49]
    have hmt5 := ht5.2.1 _ _ hmt4 (by omega) (by omega)
    have htk5 : tg5 (A (-1) (10 + k)) = 100 * h (-1) + (10 + k) := by rw [ht5.1 _ (nn_s hmt4) (by omega)]; exact htk4
    have hme5 := ht5.2.1 _ _ hme4 (by omega) (by omega)
    have hte5 : tg5 e = 99500 := by rw [ht5.1 _ (nn_s hme4) (by omega)]; exact hte4
    obtain ⟨vl5, mb5, cap5, f5, hG5, -⟩ := id hR5
    have htt5 := tgR_tr (by omega) htt4 ht5
    refine gw_bipush (q := 54) hc dX0_write_52 rfl (by decide) ?_
    refine gw_callV (q := 57) (bc' := 2) (bs' := 360) (As := [_]) hc dX0_write_54 rfl q729 mw_J4_append (rc_o hc cE_SB hG5) rfl rfl (m_J4_append hR5 (by omega) (by omega)) ⟨Nat.le_of_ble_eq_true rfl, Nat.le_of_ble_eq_true rfl⟩ (Nat.le_of_ble_eq_true rfl) (Nat.le_of_ble_eq_true rfl) (Nat.le_of_ble_eq_true rfl) (goA fun r54 G54 h54 => ?_)
    obtain ⟨er54, tg6, ht6, hR6⟩ := h54
    rw [er54]
    have hmt6 := ht6.2.1 _ _ hmt5 (by omega) (by omega)
    have htk6 : tg6 (A (-1) (10 + k)) = 100 * h (-1) + (10 + k) := by rw [ht6.1 _ (nn_s hmt5) (by omega)]; exact htk5
    have hme6 := ht6.2.1 _ _ hme5 (by omega) (by omega)
    have hte6 : tg6 e = 99500 := by rw [ht6.1 _ (nn_s hme5) (by omega)]; exact hte5
    obtain ⟨vl6, mb6, cap6, f6, hG6, -⟩ := id hR6
    have htt6 := tgR_tr (by omega) htt5 ht6
    refine gw_aload_n (q := 58) hc dX0_write_57 rfl rfl xg_2 ?_
    refine gw_getN (q := 61) hc dX0_write_58 rfl cE_ME 14 (by decide) q447 (fun _ h => h) hmt6 rfl ?_
    refine gw_callV (q := 64) (bc' := 1) (bs' := 180) (As := [_]) hc dX0_write_61 rfl q782 mw_J4_append_2 (rc_o hc cE_SB hG6) rfl rfl (m_J4_append_2 hR6 ⟨by omega, by omega⟩ (by omega)) ⟨Nat.le_of_ble_eq_true rfl, Nat.le_of_ble_eq_true rfl⟩ (Nat.le_of_ble_eq_true rfl) (Nat.le_of_ble_eq_true rfl) (Nat.le_of_ble_eq_true rfl) (goA fun r61 G61 h61 => ?_)
    obtain ⟨er61, tg7, ht7, hR7⟩ := h61
    rw [er61]
    have hmt7 := ht7.2.1 _ _ hmt6 (by omega) (by omega)
    have htk7 : tg7 (A (-1) (10 + k)) = 100 * h (-1) + (10 + k) := by rw [ht7.1 _ (nn_s hmt6) (by omega)]; exact htk6
    have hme7 := ht7.2.1 _ _ hme6 (by omega) (by omega)
    have hte7 : tg7 e = 99500 := by rw [ht7.1 _ (nn_s hme6) (by omega)]; exact hte6
    obtain ⟨vl7, mb7, cap7, f7, hG7, -⟩ := id hR7
    have htt7 := tgR_tr (by omega) htt6 ht7
    refine gw_pop (q := 65) hc dX0_write_64 rfl rfl ?_
    refine gw_aload_n (q := 66) hc dX0_write_65 rfl rfl xg_0 ?_
    refine gw_get (q := 69) hc dX0_write_66 rfl cE_ED 3 (by decide) q202 (fun _ h => h) hme7 rfl ?_
    refine gw_aload_n (q := 70) hc dX0_write_69 rfl rfl xg_2 ?_
    refine gw_getN (q := 73) hc dX0_write_70 rfl cE_ME 15 (by decide) q450 (fun _ h => h) hmt7 rfl ?_
    refine gw_if_eq  (q := 76) (t := 81) hc dX0_write_73 rfl (by decide) (by omega) (fun c73 => ?_) (fun c73 => ?_)
    · skip
      refine gw_ldcS (q := 83) hc dX0_write_81 rfl (k := 6) (by decide) ?_
      refine gw_callV (q := 86) (bc' := 0) (bs' := 0) (As := [_]) hc dX0_write_83 rfl q818 mw_J4_append_3 (rc_o hc cE_SB hG7) rfl rfl (m_J4_append_3 (k := 6) hR7 (by omega) (by omega)) ⟨Nat.le_of_ble_eq_true rfl, Nat.le_of_ble_eq_true rfl⟩ (Nat.le_of_ble_eq_true rfl) (Nat.le_of_ble_eq_true rfl) (Nat.le_of_ble_eq_true rfl) (goA fun r83 G83 h83 => ?_)
      obtain ⟨er83, tg8, ht8, hR8⟩ := h83
      rw [er83]
      have hmt8 := ht8.2.1 _ _ hmt7 (by omega) (by omega)
      have htk8 : tg8 (A (-1) (10 + k)) = 100 * h (-1) + (10 + k) := by rw [ht8.1 _ (nn_s hmt7) (by omega)]; exact htk7
      have hme8 := ht8.2.1 _ _ hme7 (by omega) (by omega)
      have hte8 : tg8 e = 99500 := by rw [ht8.1 _ (nn_s hme7) (by omega)]; exact hte7
      obtain ⟨vl8, mb8, cap8, f8, hG8, -⟩ := id hR8
      have htt8 := tgR_tr (by omega) htt7 ht8
      refine gw_pop (q := 87) hc dX0_write_86 rfl rfl ?_
      have t6 : txN 6 = 0 := rfl
      have t7 : txN 7 = 1 := rfl
      have hW4 := wr_4 (Pd := Pd) (x := 100) (y := 110) (z := 35) (a := decL (S (11 + 13 * (k : Int) + 3))) (b := decL (S (11 + 13 * (k : Int) + 4))) (c := decL (S (11 + 13 * (k : Int) + 6))) (d := if S (11 + 13 * (k : Int) + 7) = 1 then [33] else []) decL_len decL_len decL_len
      have hln : ((wrL S (k : Int)).length : Int) = 0 + 1 + nd (S (11 + 13 * (k : Int) + 3)) + 1 + nd (S (11 + 13 * (k : Int) + 4)) + 1 + nd (S (11 + 13 * (k : Int) + 6)) + txN 6 := by
          unfold wrL
          rw [if_neg (by omega), List.length_append, List.length_append, List.length_append, List.length_cons, List.length_cons, List.length_cons, decL_len, decL_len, decL_len]
          show ((nd (S (11 + 13 * (k : Int) + 3)) + 1 + (nd (S (11 + 13 * (k : Int) + 4)) + 1) + (nd (S (11 + 13 * (k : Int) + 6)) + 1) + 0 : Nat) : Int) = _
          push_cast
          omega
      rw [if_neg (by omega)] at hW4
      have hRf := sb_E (n' := ((wrL S (k : Int)).length : Int)) (F' := wr Pd 0 (wrL S (k : Int))) hR8 hln (fun i a b => by
          show wr Pd 0 (_ ++ (if S (11 + 13 * (k : Int) + 7) = 1 then [33] else [])) i = _
          rw [if_neg (by omega), hW4]
          show _ = cpF (txF 6) _ 0 _ 0 i
          exact wr_e6)
      have hCf := ed_pad hC htt8 hRf (by omega)
      refine gw_aload_n (q := 88) hc dX0_write_87 rfl rfl xg_0 ?_
      refine gw_get (q := 91) hc dX0_write_88 rfl cE_ED 3 (by decide) q202 (fun _ h => h) hme8 rfl ?_
      refine gw_callV (q := 94) (bc' := 0) (bs' := 0) (As := []) hc dX0_write_91 rfl q856 mw_J4_length (rc_o hc cE_SB hG8) rfl rfl (m_J4_length hG8) ⟨Nat.le_of_ble_eq_true rfl, Nat.le_of_ble_eq_true rfl⟩ (Nat.le_of_ble_eq_true rfl) (Nat.le_of_ble_eq_true rfl) (Nat.le_of_ble_eq_true rfl) (goI fun r91 G91 h91 => ?_)
      obtain ⟨er91, hgg⟩ := h91
      rw [hgg, er91]
      rw [← hln]
      exact gw_iret hc dX0_write_94 ⟨_, rfl, Or.inr ⟨by omega, rfl, tg8, frE_of htt8 (by omega), pl, sv, pd, h, A, hCf⟩⟩
    · skip
      refine gw_ldcS (q := 78) hc dX0_write_76 rfl (k := 7) (by decide) ?_
      refine gw_goto (q := 83) hc dX0_write_78 (by decide) ?_
      refine gw_callV (q := 86) (bc' := 0) (bs' := 0) (As := [_]) hc dX0_write_83 rfl q818 mw_J4_append_3 (rc_o hc cE_SB hG7) rfl rfl (m_J4_append_3 (k := 7) hR7 (by omega) (by omega)) ⟨Nat.le_of_ble_eq_true rfl, Nat.le_of_ble_eq_true rfl⟩ (Nat.le_of_ble_eq_true rfl) (Nat.le_of_ble_eq_true rfl) (Nat.le_of_ble_eq_true rfl) (goA fun r83 G83 h83 => ?_)
      obtain ⟨er83, tg8, ht8, hR8⟩ := h83
      rw [er83]
      have hmt8 := ht8.2.1 _ _ hmt7 (by omega) (by omega)
      have htk8 : tg8 (A (-1) (10 + k)) = 100 * h (-1) + (10 + k) := by rw [ht8.1 _ (nn_s hmt7) (by omega)]; exact htk7
      have hme8 := ht8.2.1 _ _ hme7 (by omega) (by omega)
      have hte8 : tg8 e = 99500 := by rw [ht8.1 _ (nn_s hme7) (by omega)]; exact hte7
      obtain ⟨vl8, mb8, cap8, f8, hG8, -⟩ := id hR8
      have htt8 := tgR_tr (by omega) htt7 ht8
      refine gw_pop (q := 87) hc dX0_write_86 rfl rfl ?_
      have t6 : txN 6 = 0 := rfl
      have t7 : txN 7 = 1 := rfl
      have hW4 := wr_4 (Pd := Pd) (x := 100) (y := 110) (z := 35) (a := decL (S (11 + 13 * (k : Int) + 3))) (b := decL (S (11 + 13 * (k : Int) + 4))) (c := decL (S (11 + 13 * (k : Int) + 6))) (d := if S (11 + 13 * (k : Int) + 7) = 1 then [33] else []) decL_len decL_len decL_len
      have hln : ((wrL S (k : Int)).length : Int) = 0 + 1 + nd (S (11 + 13 * (k : Int) + 3)) + 1 + nd (S (11 + 13 * (k : Int) + 4)) + 1 + nd (S (11 + 13 * (k : Int) + 6)) + txN 7 := by
          unfold wrL
          rw [if_pos (by omega), List.length_append, List.length_append, List.length_append, List.length_cons, List.length_cons, List.length_cons, decL_len, decL_len, decL_len]
          show ((nd (S (11 + 13 * (k : Int) + 3)) + 1 + (nd (S (11 + 13 * (k : Int) + 4)) + 1) + (nd (S (11 + 13 * (k : Int) + 6)) + 1) + 1 : Nat) : Int) = _
          push_cast
          omega
      rw [if_pos (by omega)] at hW4
      have hRf := sb_E (n' := ((wrL S (k : Int)).length : Int)) (F' := wr Pd 0 (wrL S (k : Int))) hR8 hln (fun i a b => by
          show wr Pd 0 (_ ++ (if S (11 + 13 * (k : Int) + 7) = 1 then [33] else [])) i = _
          rw [if_pos (by omega), hW4]
          show fu _ _ 33 i = cpF (txF 7) _ 0 _ 1 i
          exact wr_e7)
      have hCf := ed_pad hC htt8 hRf (by omega)
      refine gw_aload_n (q := 88) hc dX0_write_87 rfl rfl xg_0 ?_
      refine gw_get (q := 91) hc dX0_write_88 rfl cE_ED 3 (by decide) q202 (fun _ h => h) hme8 rfl ?_
      refine gw_callV (q := 94) (bc' := 0) (bs' := 0) (As := []) hc dX0_write_91 rfl q856 mw_J4_length (rc_o hc cE_SB hG8) rfl rfl (m_J4_length hG8) ⟨Nat.le_of_ble_eq_true rfl, Nat.le_of_ble_eq_true rfl⟩ (Nat.le_of_ble_eq_true rfl) (Nat.le_of_ble_eq_true rfl) (Nat.le_of_ble_eq_true rfl) (goI fun r91 G91 h91 => ?_)
      obtain ⟨er91, hgg⟩ := h91
      rw [hgg, er91]
      rw [← hln]
      exact gw_iret hc dX0_write_94 ⟨_, rfl, Or.inr ⟨by omega, rfl, tg8, frE_of htt8 (by omega), pl, sv, pd, h, A, hCf⟩⟩
  · skip
    refine gw_iconst (q := 9) hc dX0_write_8 rfl ?_
    exact gw_iret hc dX0_write_9 ⟨_, rfl, Or.inl ⟨by omega, rfl, rfl⟩⟩

set_option maxHeartbeats 4000000 in
theorem m_X0_put {l : Launch} {D : va_G} {X : Nat → Nat} {b0 : Nat} {tg : Nat → Nat} {e nid pl sv pd : Nat} {h : Int → Nat} {A : Int → Nat → Nat} {S P L V Pd : Int → Int} {kn ln : Int} {G : gM} (hC : edC D X tg e nid pl sv pd h A S P kn L V Pd ln G) {v : Int64} (hn : nid < 890) (hpw : padW Pd ln) : gMet l D X b0 yX0_put cX0_put 7 (some FieldType.int) (rmE 6 8 1440) [.ref e, .long v] G (pI fun r G' => r = puF v ln ∧ ((puF v ln < 0 ∧ G' = G) ∨ (0 ≤ puF v ln ∧ ∃ tg' : Nat → Nat, frE tg tg' G G' ∧ edR D X tg' e nid S P kn L V (wr Pd ln (puL v (pM v 8).toNat)) (ln + pM v 8) G'))) := by
  refine gm_start (own := "EnergyDiscs") (lv := [some (.ref e), some (.long v), none, none, none, none, none]) (by decide +kernel) rfl (Nat.le_of_ble_eq_true rfl) rfl (fun p_ e_ s_ m_ args_ below_ meth_ c_ hc hnm => ?_)
  obtain ⟨hlt, W, hH⟩ := ed_H hC
  obtain ⟨mcm, arm, hmcm, hMc, hMa, -⟩ := alR_P hH.2.2.2.2.1
  obtain ⟨mcl, arl, hmcl, hLc, hLa, -⟩ := alR_P hH.2.2.2.2.2.1
  have hb := hH.1
  obtain ⟨vl, mb, cap, f, hG, hV, htp, hcap, hmb, hB, hf⟩ := hC.2.2.2.2.2.2
  have hte := hC.1.2.1
  have hpb := hpw.1
  refine gw_iconst (q := 1) hc dX0_put_0 rfl ?_
  refine gw_istore_n (q := 2) hc dX0_put_1 rfl rfl xs_3 (by decide) (n2p xg_2 rfl) ?_
  refine gw_lload_n (q := 3) hc dX0_put_2 rfl rfl xg_1 ?_
  refine gw_lstore (q := 5) hc dX0_put_3 rfl xs_4 xs_5 (by decide) (n2p xg_3 rfl) ?_
  refine gw_lv (show _ = [some (.ref e), some (.long v), none, some (.int (iI ((0 : Nat) : Int))), some (.long (rst v 0)), none, none] from by rw [rst_0]; rfl) ?_
  refine gw_loop (σ := Nat) (fun x => x ≤ 8 ∧ pOk v x) (fun x => 8 - x) (fun x => G) (fun x => [some (.ref e), some (.long v), none, some (.int (iI (x : Int))), some (.long (rst v x)), none, none]) ?_ 0 ⟨by omega, fun j hj => by omega⟩
  rintro n hI5 ih5
  try dsimp only at hI5 ⊢
  have hby := by_r v n
  refine gw_iload_n (q := 6) hc dX0_put_5 rfl rfl xg_3 ?_
  refine gw_bipush (q := 8) hc dX0_put_6 rfl (by decide) ?_
  refine gw_icmp_ge  (q := 11) (t := 55) hc dX0_put_8 rfl (by decide) (by omega) (by omega) (fun c8 => ?_) (fun c8 => ?_)
  · have hend := pu_end hI5.2 (by omega) (Or.inl (by omega))
    refine gw_iload_n (q := 56) hc dX0_put_55 rfl rfl xg_3 ?_
    refine gw_if_eq  (q := 59) (t := 66) hc dX0_put_56 rfl (by decide) (by omega) (fun c56 => ?_) (fun c56 => ?_)
    · have hpu : puF v ln = -2 := by unfold puF; rw [if_pos (by omega)]
      refine gw_bipush (q := 68) hc dX0_put_66 rfl (by decide) ?_
      exact gw_iret hc dX0_put_68 ⟨_, rfl, ⟨hpu.symm, Or.inl ⟨by omega, rfl⟩⟩⟩
    · skip
      refine gw_lload (q := 61) hc dX0_put_59 rfl xg_4 ?_
      refine gw_st (show _ = [.long (jI (rst v n).toInt)] from congrArg (fun z => [Value.long z]) (jI_of _)) ?_
      refine gw_lconst (q := 62) hc dX0_put_61 rfl (v := 0) rfl ?_
      refine gw_lcmp (q := 63) hc dX0_put_62 rfl (rJ_toInt _) ⟨by omega, by omega⟩ ?_
      refine gw_ifc_eq  (q := 66) (t := 69) hc dX0_put_63 rfl (by decide)  (fun c63 => ?_) (fun c63 => ?_)
      · have hgood : pR v 8 ≠ 0 := fun z => hend.2.mp z c63
        refine gw_aload_n (q := 70) hc dX0_put_69 rfl rfl xg_0 ?_
        refine gw_get (q := 73) hc dX0_put_70 rfl cE_ED 3 (by decide) q202 (fun _ h => h) hC.1.1 rfl ?_
        refine gw_callV (q := 76) (bc' := 8) (bs' := 1440) (As := []) hc dX0_put_73 rfl q856 mw_J4_length (rc_o hc cE_SB hG) rfl rfl (m_J4_length hG) ⟨Nat.le_of_ble_eq_true rfl, Nat.le_of_ble_eq_true rfl⟩ (Nat.le_of_ble_eq_true rfl) (Nat.le_of_ble_eq_true rfl) (Nat.le_of_ble_eq_true rfl) (goI fun r73 G73 h73 => ?_)
        obtain ⟨er73, hgg⟩ := h73
        rw [hgg, er73]
        refine gw_iload_n (q := 77) hc dX0_put_76 rfl rfl xg_3 ?_
        refine gw_iadd (q := 78) hc dX0_put_77 rfl ?_
        refine gw_bipush (q := 80) hc dX0_put_78 rfl (by decide) ?_
        refine gw_icmp_le  (q := 83) (t := 86) hc dX0_put_80 rfl (by decide) (by omega) (by omega) (fun c80 => ?_) (fun c80 => ?_)
        · skip
          refine gw_iload_n (q := 87) hc dX0_put_86 rfl rfl xg_3 ?_
          refine gw_iconst (q := 88) hc dX0_put_87 rfl ?_
          refine gw_isub (q := 89) hc dX0_put_88 rfl ?_
          refine gw_istore (q := 91) hc dX0_put_89 rfl xs_6 (by decide) (n2p xg_5 rfl) ?_
          refine gw_lessB (bc' := 1 * n + 0) (bs' := 180 * n + 0) (by (try dsimp only [rmE]); omega) (by (try dsimp only [rmE]); omega) ?_
          refine gw_loopB (σ := Nat × (Nat → Nat) × gM × (Int → Int) × Int) (fun x => (x.1 ≤ n ∧ 0 ≤ x.2.2.2.2) ∧ tgR tg x.2.1 996 G x.2.2.1 ∧ sbR D x.2.1 996 pd x.2.2.2.2 x.2.2.2.1 x.2.2.1 ∧ x.2.2.2.2 + x.1 = ln + n ∧ wr x.2.2.2.1 x.2.2.2.2 (puL v x.1) = wr Pd ln (puL v n)) (fun x => x.1) (fun x => x.2.2.1) (fun x => [some (.ref e), some (.long v), none, some (.int (iI (n : Int))), some (.long (rst v n)), none, some (.int (iI ((x.1 : Int) - 1)))]) (fun x => 1 * x.1 + 0) (fun x => 180 * x.1 + 0) ?_ ⟨n, tg, G, Pd, ln⟩ ⟨⟨by dsimp only; omega, by dsimp only; omega⟩, tgR_rf, hC.2.2.2.2.2.2, rfl, rfl⟩
          rintro ⟨j, tg1, G1, F1, n1⟩ hI91 ih91
          try dsimp only at hI91 ih91 ⊢
          obtain ⟨hjn, ht1, hR1, hn1, hwr⟩ := hI91
          obtain ⟨vl1, mb1, cap1, f1, hG1, -⟩ := id hR1
          have hme1 := ht1.2.1 _ _ hC.1.1 (by omega) (by omega)
          refine gw_iload (q := 93) hc dX0_put_91 rfl xg_6 ?_
          refine gw_if_lt  (q := 96) (t := 123) hc dX0_put_93 rfl (by decide) (by omega) (fun c93 => ?_) (fun c93 => ?_)
          · skip
            have hj0 : j = 0 := by omega
            subst hj0
            have hpu : puF v ln = ln + n := by unfold puF; rw [if_neg (by omega), if_neg (by omega)]; omega
            have hRf := sb_E (n' := ln + pM v 8) (F' := wr Pd ln (puL v (pM v 8).toNat)) hR1 (by omega) (fun i a b => by rw [hend.1, Int.toNat_natCast, ← hwr]; rfl)
            refine gw_lessB (bc' := 0) (bs' := 0) (by omega) (by omega) ?_
            refine gw_aload_n (q := 124) hc dX0_put_123 rfl rfl xg_0 ?_
            refine gw_get (q := 127) hc dX0_put_124 rfl cE_ED 3 (by decide) q202 (fun _ h => h) hme1 rfl ?_
            refine gw_callV (q := 130) (bc' := 0) (bs' := 0) (As := []) hc dX0_put_127 rfl q856 mw_J4_length (rc_o hc cE_SB hG1) rfl rfl (m_J4_length hG1) ⟨Nat.le_of_ble_eq_true rfl, Nat.le_of_ble_eq_true rfl⟩ (Nat.le_of_ble_eq_true rfl) (Nat.le_of_ble_eq_true rfl) (Nat.le_of_ble_eq_true rfl) (goI fun r127 G127 h127 => ?_)
            obtain ⟨er127, hgg⟩ := h127
            rw [hgg, er127]
            exact gw_iret hc dX0_put_130 ⟨_, rfl, ⟨by omega, Or.inr ⟨by omega, tg1, frE_of ht1 (by omega), pl, sv, pd, h, A, ed_pad hC ht1 hRf (by omega)⟩⟩⟩
          · skip
            obtain ⟨j2, rfl⟩ : ∃ j2 : Nat, j = j2 + 1 := ⟨j - 1, by omega⟩
            refine gw_lv (show _ = [some (.ref e), some (.long v), none, some (.int (iI (n : Int))), some (.long (rst v n)), none, some (.int (iI (j2 : Int)))] from by rw [show ((j2 + 1 : Nat) : Int) - 1 = (j2 : Int) by omega]) ?_
            have hbj := hI5.2 j2 (by omega)
            refine gw_lessB (bc' := 1 * j2 + 0 + 1) (bs' := 180 * j2 + 0 + 180) (by omega) (by omega) ?_
            refine gw_aload_n (q := 97) hc dX0_put_96 rfl rfl xg_0 ?_
            refine gw_get (q := 100) hc dX0_put_97 rfl cE_ED 3 (by decide) q202 (fun _ h => h) hme1 rfl ?_
            refine gw_lload_n (q := 101) hc dX0_put_100 rfl rfl xg_1 ?_
            refine gw_bipush (q := 103) hc dX0_put_101 rfl (by decide) ?_
            refine gw_iload (q := 105) hc dX0_put_103 rfl xg_6 ?_
            refine gw_imul (q := 106) hc dX0_put_105 rfl ?_
            refine gw_lshr (q := 107) hc dX0_put_106 rfl ?_
            refine gw_ldc2 (q := 110) hc dX0_put_107 rfl (v := 255) q996 (by decide) ?_
            refine gw_land (q := 111) hc dX0_put_110 rfl ?_
            refine gw_st (show _ = [.long (jI (byF v j2)), .ref pd] from congrArg (fun z => [Value.long z, .ref pd]) (jI_of _)) ?_
            refine gw_l2i (q := 112) hc dX0_put_111 rfl ?_
            refine gw_i2c (q := 113) hc dX0_put_112 rfl ⟨by omega, by omega⟩ ?_
            refine gw_callV (q := 116) (bc' := (1 * j2 + 0 + 0)) (bs' := (180 * j2 + 0 + 0)) (As := [_]) hc dX0_put_113 rfl q729 mw_J4_append (rc_o hc cE_SB hG1) rfl rfl (m_J4_append hR1 ⟨by omega, by omega⟩ (by omega)) ⟨Nat.le_of_ble_eq_true rfl, Nat.le_of_ble_eq_true rfl⟩ (Nat.le_of_ble_eq_true rfl) (by dsimp only [rmE]; omega) (by dsimp only [rmE]; omega) (goA fun r113 G113 h113 => ?_)
            obtain ⟨er113, tg2, ht2, hR2⟩ := h113
            rw [er113]
            refine gw_pop (q := 117) hc dX0_put_116 rfl rfl ?_
            refine gw_iinc (q := 120) hc dX0_put_117 rfl xg_6 xs_6 (by decide) (n2p xg_5 rfl) ?_
            refine gw_lv (show _ = [some (.ref e), some (.long v), none, some (.int (iI (n : Int))), some (.long (rst v n)), none, some (.int (iI ((j2 : Int) - 1)))] from by rw [show (j2 : Int) + -1 = (j2 : Int) - 1 by omega]) ?_
            refine gw_goto (q := 91) hc dX0_put_120 (by decide) ?_
            refine gw_lessB (by omega) (by omega) (ih91 ⟨j2, tg2, G113, fu F1 n1 (byF v j2), n1 + 1⟩ ⟨⟨by dsimp only; omega, by dsimp only; omega⟩, tgR_tr (by omega) ht1 ht2, hR2, by dsimp only; omega, hwr⟩ (by show j2 < j2 + 1; omega))
        · have hpu : puF v ln = -4 := by unfold puF; rw [if_neg (by omega), if_pos (by omega)]
          refine gw_bipush (q := 85) hc dX0_put_83 rfl (by decide) ?_
          exact gw_iret hc dX0_put_85 ⟨_, rfl, ⟨hpu.symm, Or.inl ⟨by omega, rfl⟩⟩⟩
      · have hpu : puF v ln = -2 := by unfold puF; rw [if_pos (Or.inl (hend.2.mpr c63))]
        refine gw_bipush (q := 68) hc dX0_put_66 rfl (by decide) ?_
        exact gw_iret hc dX0_put_68 ⟨_, rfl, ⟨hpu.symm, Or.inl ⟨by omega, rfl⟩⟩⟩
  · skip
    refine gw_lload (q := 13) hc dX0_put_11 rfl xg_4 ?_
    refine gw_ldc2 (q := 16) hc dX0_put_13 rfl (v := 255) q996 (by decide) ?_
    refine gw_land (q := 17) hc dX0_put_16 rfl ?_
    rw [rst_and (by omega)]
    refine gw_lconst (q := 18) hc dX0_put_17 rfl (v := 0) rfl ?_
    refine gw_lcmp (q := 19) hc dX0_put_18 rfl ⟨by omega, by omega⟩ ⟨by omega, by omega⟩ ?_
    refine gw_ifc_eq  (q := 22) (t := 55) hc dX0_put_19 rfl (by decide)  (fun c19 => ?_) (fun c19 => ?_)
    · have hend := pu_end hI5.2 (by omega) (Or.inr c19)
      refine gw_iload_n (q := 56) hc dX0_put_55 rfl rfl xg_3 ?_
      refine gw_if_eq  (q := 59) (t := 66) hc dX0_put_56 rfl (by decide) (by omega) (fun c56 => ?_) (fun c56 => ?_)
      · have hpu : puF v ln = -2 := by unfold puF; rw [if_pos (by omega)]
        refine gw_bipush (q := 68) hc dX0_put_66 rfl (by decide) ?_
        exact gw_iret hc dX0_put_68 ⟨_, rfl, ⟨hpu.symm, Or.inl ⟨by omega, rfl⟩⟩⟩
      · skip
        refine gw_lload (q := 61) hc dX0_put_59 rfl xg_4 ?_
        refine gw_st (show _ = [.long (jI (rst v n).toInt)] from congrArg (fun z => [Value.long z]) (jI_of _)) ?_
        refine gw_lconst (q := 62) hc dX0_put_61 rfl (v := 0) rfl ?_
        refine gw_lcmp (q := 63) hc dX0_put_62 rfl (rJ_toInt _) ⟨by omega, by omega⟩ ?_
        refine gw_ifc_eq  (q := 66) (t := 69) hc dX0_put_63 rfl (by decide)  (fun c63 => ?_) (fun c63 => ?_)
        · have hgood : pR v 8 ≠ 0 := fun z => hend.2.mp z c63
          refine gw_aload_n (q := 70) hc dX0_put_69 rfl rfl xg_0 ?_
          refine gw_get (q := 73) hc dX0_put_70 rfl cE_ED 3 (by decide) q202 (fun _ h => h) hC.1.1 rfl ?_
          refine gw_callV (q := 76) (bc' := 8) (bs' := 1440) (As := []) hc dX0_put_73 rfl q856 mw_J4_length (rc_o hc cE_SB hG) rfl rfl (m_J4_length hG) ⟨Nat.le_of_ble_eq_true rfl, Nat.le_of_ble_eq_true rfl⟩ (Nat.le_of_ble_eq_true rfl) (Nat.le_of_ble_eq_true rfl) (Nat.le_of_ble_eq_true rfl) (goI fun r73 G73 h73 => ?_)
          obtain ⟨er73, hgg⟩ := h73
          rw [hgg, er73]
          refine gw_iload_n (q := 77) hc dX0_put_76 rfl rfl xg_3 ?_
          refine gw_iadd (q := 78) hc dX0_put_77 rfl ?_
          refine gw_bipush (q := 80) hc dX0_put_78 rfl (by decide) ?_
          refine gw_icmp_le  (q := 83) (t := 86) hc dX0_put_80 rfl (by decide) (by omega) (by omega) (fun c80 => ?_) (fun c80 => ?_)
          · skip
            refine gw_iload_n (q := 87) hc dX0_put_86 rfl rfl xg_3 ?_
            refine gw_iconst (q := 88) hc dX0_put_87 rfl ?_
            refine gw_isub (q := 89) hc dX0_put_88 rfl ?_
            refine gw_istore (q := 91) hc dX0_put_89 rfl xs_6 (by decide) (n2p xg_5 rfl) ?_
            refine gw_lessB (bc' := 1 * n + 0) (bs' := 180 * n + 0) (by (try dsimp only [rmE]); omega) (by (try dsimp only [rmE]); omega) ?_
            refine gw_loopB (σ := Nat × (Nat → Nat) × gM × (Int → Int) × Int) (fun x => (x.1 ≤ n ∧ 0 ≤ x.2.2.2.2) ∧ tgR tg x.2.1 996 G x.2.2.1 ∧ sbR D x.2.1 996 pd x.2.2.2.2 x.2.2.2.1 x.2.2.1 ∧ x.2.2.2.2 + x.1 = ln + n ∧ wr x.2.2.2.1 x.2.2.2.2 (puL v x.1) = wr Pd ln (puL v n)) (fun x => x.1) (fun x => x.2.2.1) (fun x => [some (.ref e), some (.long v), none, some (.int (iI (n : Int))), some (.long (rst v n)), none, some (.int (iI ((x.1 : Int) - 1)))]) (fun x => 1 * x.1 + 0) (fun x => 180 * x.1 + 0) ?_ ⟨n, tg, G, Pd, ln⟩ ⟨⟨by dsimp only; omega, by dsimp only; omega⟩, tgR_rf, hC.2.2.2.2.2.2, rfl, rfl⟩
            rintro ⟨j, tg1, G1, F1, n1⟩ hI91 ih91
            try dsimp only at hI91 ih91 ⊢
            obtain ⟨hjn, ht1, hR1, hn1, hwr⟩ := hI91
            obtain ⟨vl1, mb1, cap1, f1, hG1, -⟩ := id hR1
            have hme1 := ht1.2.1 _ _ hC.1.1 (by omega) (by omega)
            refine gw_iload (q := 93) hc dX0_put_91 rfl xg_6 ?_
            refine gw_if_lt  (q := 96) (t := 123) hc dX0_put_93 rfl (by decide) (by omega) (fun c93 => ?_) (fun c93 => ?_)
            · skip
              have hj0 : j = 0 := by omega
              subst hj0
              have hpu : puF v ln = ln + n := by unfold puF; rw [if_neg (by omega), if_neg (by omega)]; omega
              have hRf := sb_E (n' := ln + pM v 8) (F' := wr Pd ln (puL v (pM v 8).toNat)) hR1 (by omega) (fun i a b => by rw [hend.1, Int.toNat_natCast, ← hwr]; rfl)
              refine gw_lessB (bc' := 0) (bs' := 0) (by omega) (by omega) ?_
              refine gw_aload_n (q := 124) hc dX0_put_123 rfl rfl xg_0 ?_
              refine gw_get (q := 127) hc dX0_put_124 rfl cE_ED 3 (by decide) q202 (fun _ h => h) hme1 rfl ?_
              refine gw_callV (q := 130) (bc' := 0) (bs' := 0) (As := []) hc dX0_put_127 rfl q856 mw_J4_length (rc_o hc cE_SB hG1) rfl rfl (m_J4_length hG1) ⟨Nat.le_of_ble_eq_true rfl, Nat.le_of_ble_eq_true rfl⟩ (Nat.le_of_ble_eq_true rfl) (Nat.le_of_ble_eq_true rfl) (Nat.le_of_ble_eq_true rfl) (goI fun r127 G127 h127 => ?_)
              obtain ⟨er127, hgg⟩ := h127
              rw [hgg, er127]
              exact gw_iret hc dX0_put_130 ⟨_, rfl, ⟨by omega, Or.inr ⟨by omega, tg1, frE_of ht1 (by omega), pl, sv, pd, h, A, ed_pad hC ht1 hRf (by omega)⟩⟩⟩
            · skip
              obtain ⟨j2, rfl⟩ : ∃ j2 : Nat, j = j2 + 1 := ⟨j - 1, by omega⟩
              refine gw_lv (show _ = [some (.ref e), some (.long v), none, some (.int (iI (n : Int))), some (.long (rst v n)), none, some (.int (iI (j2 : Int)))] from by rw [show ((j2 + 1 : Nat) : Int) - 1 = (j2 : Int) by omega]) ?_
              have hbj := hI5.2 j2 (by omega)
              refine gw_lessB (bc' := 1 * j2 + 0 + 1) (bs' := 180 * j2 + 0 + 180) (by omega) (by omega) ?_
              refine gw_aload_n (q := 97) hc dX0_put_96 rfl rfl xg_0 ?_
              refine gw_get (q := 100) hc dX0_put_97 rfl cE_ED 3 (by decide) q202 (fun _ h => h) hme1 rfl ?_
              refine gw_lload_n (q := 101) hc dX0_put_100 rfl rfl xg_1 ?_
              refine gw_bipush (q := 103) hc dX0_put_101 rfl (by decide) ?_
              refine gw_iload (q := 105) hc dX0_put_103 rfl xg_6 ?_
              refine gw_imul (q := 106) hc dX0_put_105 rfl ?_
              refine gw_lshr (q := 107) hc dX0_put_106 rfl ?_
              refine gw_ldc2 (q := 110) hc dX0_put_107 rfl (v := 255) q996 (by decide) ?_
              refine gw_land (q := 111) hc dX0_put_110 rfl ?_
              refine gw_st (show _ = [.long (jI (byF v j2)), .ref pd] from congrArg (fun z => [Value.long z, .ref pd]) (jI_of _)) ?_
              refine gw_l2i (q := 112) hc dX0_put_111 rfl ?_
              refine gw_i2c (q := 113) hc dX0_put_112 rfl ⟨by omega, by omega⟩ ?_
              refine gw_callV (q := 116) (bc' := (1 * j2 + 0 + 0)) (bs' := (180 * j2 + 0 + 0)) (As := [_]) hc dX0_put_113 rfl q729 mw_J4_append (rc_o hc cE_SB hG1) rfl rfl (m_J4_append hR1 ⟨by omega, by omega⟩ (by omega)) ⟨Nat.le_of_ble_eq_true rfl, Nat.le_of_ble_eq_true rfl⟩ (Nat.le_of_ble_eq_true rfl) (by dsimp only [rmE]; omega) (by dsimp only [rmE]; omega) (goA fun r113 G113 h113 => ?_)
              obtain ⟨er113, tg2, ht2, hR2⟩ := h113
              rw [er113]
              refine gw_pop (q := 117) hc dX0_put_116 rfl rfl ?_
              refine gw_iinc (q := 120) hc dX0_put_117 rfl xg_6 xs_6 (by decide) (n2p xg_5 rfl) ?_
              refine gw_lv (show _ = [some (.ref e), some (.long v), none, some (.int (iI (n : Int))), some (.long (rst v n)), none, some (.int (iI ((j2 : Int) - 1)))] from by rw [show (j2 : Int) + -1 = (j2 : Int) - 1 by omega]) ?_
              refine gw_goto (q := 91) hc dX0_put_120 (by decide) ?_
              refine gw_lessB (by omega) (by omega) (ih91 ⟨j2, tg2, G113, fu F1 n1 (byF v j2), n1 + 1⟩ ⟨⟨by dsimp only; omega, by dsimp only; omega⟩, tgR_tr (by omega) ht1 ht2, hR2, by dsimp only; omega, hwr⟩ (by show j2 < j2 + 1; omega))
          · have hpu : puF v ln = -4 := by unfold puF; rw [if_neg (by omega), if_pos (by omega)]
            refine gw_bipush (q := 85) hc dX0_put_83 rfl (by decide) ?_
            exact gw_iret hc dX0_put_85 ⟨_, rfl, ⟨hpu.symm, Or.inl ⟨by omega, rfl⟩⟩⟩
        · have hpu : puF v ln = -2 := by unfold puF; rw [if_pos (Or.inl (hend.2.mpr c63))]
          refine gw_bipush (q := 68) hc dX0_put_66 rfl (by decide) ?_
          exact gw_iret hc dX0_put_68 ⟨_, rfl, ⟨hpu.symm, Or.inl ⟨by omega, rfl⟩⟩⟩
    · skip
      refine gw_lload (q := 24) hc dX0_put_22 rfl xg_4 ?_
      refine gw_ldc2 (q := 27) hc dX0_put_24 rfl (v := 255) q996 (by decide) ?_
      refine gw_land (q := 28) hc dX0_put_27 rfl ?_
      rw [rst_and (by omega)]
      refine gw_l2i (q := 29) hc dX0_put_28 rfl ?_
      refine gw_bipush (q := 31) hc dX0_put_29 rfl (by decide) ?_
      refine gw_bipush (q := 33) hc dX0_put_31 rfl (by decide) ?_
      refine gw_callS (q := 36) (bc' := 8) (bs' := 1440) (As := [_, _, _]) hc dX0_put_33 rfl q216 mw_X0_isIn rfl rfl (m_X0_isIn ⟨by omega, by omega⟩ (by omega) (by omega)) ⟨Nat.le_of_ble_eq_true rfl, Nat.le_of_ble_eq_true rfl⟩ (Nat.le_of_ble_eq_true rfl) (Nat.le_of_ble_eq_true rfl) (Nat.le_of_ble_eq_true rfl) (goI fun r33 G33 h33 => ?_)
      obtain ⟨b33, hgg⟩ := h33
      rw [hgg]
      refine gw_if_ne  (q := 39) (t := 42) hc dX0_put_36 rfl (by decide) (by omega) (fun c36 => ?_) (fun c36 => ?_)
      · skip
        refine gw_iinc (q := 45) hc dX0_put_42 rfl xg_3 xs_3 (by decide) (n2p xg_2 rfl) ?_
        refine gw_lload (q := 47) hc dX0_put_45 rfl xg_4 ?_
        refine gw_bipush (q := 49) hc dX0_put_47 rfl (by decide) ?_
        refine gw_lushr (q := 50) hc dX0_put_49 rfl rst_s ?_
        refine gw_lstore (q := 52) hc dX0_put_50 rfl xs_4 xs_5 (by decide) (n2p xg_3 rfl) ?_
        refine gw_goto (q := 5) hc dX0_put_52 (by decide) ?_
        exact ih5 (n + 1) ⟨by omega, fun j hj => by by_cases q : j = n; (rw [q]; omega); exact hI5.2 j (by omega)⟩ (by omega)
      · skip
        refine gw_bipush (q := 41) hc dX0_put_39 rfl (by decide) ?_
        exact gw_iret hc dX0_put_41 ⟨_, rfl, ⟨(pu_bad hI5.2 (by omega) c19 (by omega)).symm, Or.inl ⟨by rw [pu_bad hI5.2 (by omega) c19 (by omega)]; omega, rfl⟩⟩⟩

