/-! ===== the twin: changes, what there is ===== -/
set_option maxRecDepth 100000
def wnM (S : Int → Int) (t : Int) : Int := if 0 < S 7 ∧ ¬ (0 ≤ t ∧ t < S 7) then -1 else if S 7 = 7 then -4 else 0
def wnL (S : Int → Int) (m w : Int) : Int := if ¬ (0 ≤ m ∧ m < S 7) then -1 else if ¬ (1 ≤ w ∧ w ≤ 4000) then -2 else if S 8 = 12 then -4 else 0
def wnT (S : Int → Int) (m : Int) : Int := if ¬ (0 ≤ m ∧ m < S 7) then -1 else if S (11 + 13 * m + 7) = 1 then -5 else 0
def wnP (S : Int → Int) (t : Int) : Int := if ¬ (1 ≤ t ∧ t ≤ 1440) then -2 else if 99999 < S 6 + t then -5 else 0
def wnI (S : Int → Int) (m : Int) : Int := if 0 ≤ m ∧ m < S 7 then 0 else -1
def wnO (S : Int → Int) (j : Int) : Int := if 0 ≤ j ∧ j < S 8 then 0 else -1
def wnS (i v : Int) : Int := if (0 ≤ i ∧ i ≤ 5) ∧ (lowF i ≤ v ∧ v ≤ highF i) then 0 else -2
/-- a change: the error, or what is remembered, the new row and the answer -/
abbrev eC (D : va_G) (α : Nat → Nat) (S P : Int → Int) (kn : Int) (L V Pd : Int → Int) (ln : Int) (G : gM) (why : Int) (S' : Int → Int) (r' : Int) : Option Value → gM → Prop :=
  pI fun r G' => (why < 0 ∧ r = why ∧ G' = tG D α S P kn L V Pd ln G) ∨ (why = 0 ∧ r = r' ∧ ∃ (P' : Int → Int) (kn' : Int), remR S P kn P' kn' ∧ G' = tG D α S' P' kn' L V Pd ln G)
def coZ (S : Int → Int) : Nat → Int → Int
  | 0 => S
  | k + 1 => fu (coZ S k) (0 + 11 + 13 * S 7 + k) 0
def co1 (S : Int → Int) : Int → Int := fu (coZ S 13) 10 (coZ S 13 10 + 1)
def co2 (S : Int → Int) (t : Int) : Int → Int := fu (co1 S) (0 + 11 + 13 * S 7 + 0) (if S 7 = 0 then -1 else t)
def co3 (S : Int → Int) (t : Int) : Int → Int := fu (co2 S t) (0 + 11 + 13 * S 7 + 2) 100
def co4 (S : Int → Int) (t : Int) : Int → Int := fu (co3 S t) (0 + 11 + 13 * S 7 + 6) (co3 S t 10)
/-- a meter comes -/
def coF (S : Int → Int) (t : Int) : Int → Int := fu (co4 S t) 7 (co4 S t 7 + 1)
def lo3 (S : Int → Int) (m w : Int) : Int → Int := fu (fu (fu S (102 + 3 * S 8) m) (102 + 3 * S 8 + 1) w) (102 + 3 * S 8 + 2) 0
/-- a load comes -/
def loF (S : Int → Int) (m w : Int) : Int → Int := fu (lo3 S m w) 8 (lo3 S m w 8 + 1)
/-- a load is turned on or off -/
def tuF (S : Int → Int) (j : Int) : Int → Int := fu S (102 + 3 * j + 2) (1 - S (102 + 3 * j + 2))
/-- a meter is tampered with -/
def taF (S : Int → Int) (m : Int) : Int → Int := fu S (0 + 11 + 13 * m + 7) 1
def biF (S : Int → Int) (m : Int) : Int := S 4 * (S (0 + 11 + 13 * m + 3) - S (0 + 11 + 13 * m + 11)) + S 5 * (S (0 + 11 + 13 * m + 4) - S (0 + 11 + 13 * m + 12))
def vi1 (S : Int → Int) (m : Int) : Int → Int := fu S (0 + 11 + 13 * m + 11) (S (0 + 11 + 13 * m + 3))
def vi2 (S : Int → Int) (m : Int) : Int → Int := fu (vi1 S m) (0 + 11 + 13 * m + 12) (vi1 S m (0 + 11 + 13 * m + 4))
def vi3 (S : Int → Int) (m : Int) : Int → Int := fu (vi2 S m) (0 + 11 + 13 * m + 8) (vi2 S m (0 + 11 + 13 * m + 8) + biF S m)
def vi4 (S : Int → Int) (m : Int) : Int → Int := fu (vi3 S m) 9 (vi3 S m 9 + biF S m)
def vi5 (S : Int → Int) (m : Int) : Int → Int := fu (vi4 S m) (0 + 11 + 13 * m + 2) 100
def vi6 (S : Int → Int) (m : Int) : Int → Int := fu (vi5 S m) (0 + 11 + 13 * m + 9) 0
def vi7 (S : Int → Int) (m : Int) : Int → Int := fu (vi6 S m) (0 + 11 + 13 * m + 10) (vi6 S m (0 + 11 + 13 * m + 10) + 1)
def vi8 (S : Int → Int) (m : Int) : Int → Int := fu (vi7 S m) 10 (vi7 S m 10 + 1)
def vi9 (S : Int → Int) (m : Int) : Int → Int := fu (vi8 S m) (0 + 11 + 13 * m + 6) (vi8 S m 10)
/-- a visit -/
def viF (S : Int → Int) (m : Int) : Int → Int := if vi7 S m (0 + 11 + 13 * m + 7) = 1 then fu (vi9 S m) (0 + 11 + 13 * m + 7) 0 else vi7 S m
theorem vi7_7 {S : Int → Int} {m : Int} (h0 : 0 ≤ m) : vi7 S m (0 + 11 + 13 * m + 7) = S (0 + 11 + 13 * m + 7) := by
  rw [vi7, fu_n (by omega), vi6, fu_n (by omega), vi5, fu_n (by omega), vi4, fu_n (by omega), vi3, fu_n (by omega), vi2, fu_n (by omega), vi1, fu_n (by omega)]
theorem coZ_o {S : Int → Int} {i : Int} : ∀ k : Nat, (i < 0 + 11 + 13 * S 7 ∨ 0 + 11 + 13 * S 7 + k ≤ i) → coZ S k i = S i
  | 0, _ => rfl
  | k + 1, h => by
    show fu _ _ _ i = _
    rw [fu_n (by omega)]
    exact coZ_o k (by omega)
theorem co4_7 {S : Int → Int} {t : Int} (h7 : 0 ≤ S 7) : co4 S t 7 = S 7 := by
  rw [co4, fu_n (by omega), co3, fu_n (by omega), co2, fu_n (by omega), co1, fu_n (by omega)]
  exact coZ_o 13 (by omega)
theorem lo3_8 {S : Int → Int} {m w : Int} (h8 : 0 ≤ S 8) : lo3 S m w 8 = S 8 := by
  rw [lo3, fu_n (by omega), fu_n (by omega), fu_n (by omega)]
/-- sets of small numbers -/
def bts (f : Int → Bool) : Nat → Int
  | 0 => 0
  | n + 1 => bts f n + if f n = true then 2 ^ n else 0
theorem bts_bd (f : Int → Bool) : ∀ n : Nat, 0 ≤ bts f n ∧ bts f n < 2 ^ n
  | 0 => by simp [bts]
  | n + 1 => by
    have ih := bts_bd f n
    have e : (2 : Int) ^ (n + 1) = 2 ^ n * 2 := Int.pow_succ 2 n
    simp only [bts]
    split <;> omega
theorem iI_or {a b : Nat} : iI (a : Int) ||| iI (b : Int) = iI ((a ||| b : Nat) : Int) := by
  rw [← iI_nat, ← iI_nat, ← iI_nat]
  apply Int32.toBitVec_inj.mp
  apply BitVec.eq_of_toNat_eq
  simp [Int32.toBitVec_or, Nat.or_mod_two_pow]
theorem or_add {a n : Nat} (h : a < 2 ^ n) : a ||| 2 ^ n = a + 2 ^ n := by
  rw [Nat.or_comm, Nat.add_comm]
  have := Nat.two_pow_add_eq_or_of_lt h 1
  simpa using this.symm
theorem bts_add {f : Int → Bool} {n : Nat} : iI (bts f n) ||| iI (2 ^ n) = iI (bts f n + 2 ^ n) := by
  have hb := bts_bd f n
  have e1 : bts f n = ((bts f n).toNat : Int) := by omega
  have e2 : ((2 : Int) ^ n) = ((2 ^ n : Nat) : Int) := by simp
  rw [e1, e2, iI_or, or_add (by have := hb.2; rw [e1] at this; rw [e2] at this; omega)]
  simp
theorem bts_0 {f : Int → Bool} {n : Nat} : iI (bts f n) ||| iI 0 = iI (bts f n) := by
  have hb := bts_bd f n
  have e1 : bts f n = ((bts f n).toNat : Int) := by omega
  rw [e1, show (0 : Int) = ((0 : Nat) : Int) from rfl, iI_or]
  simp
theorem shl_b {b k : Int} (hb : b = 0 ∨ b = 1) (h0 : 0 ≤ k) (h : k < 12) : iI b <<< (iI k &&& 31) = iI (if b = 1 then 2 ^ k.toNat else 0) := by
  have hk : k = 0 ∨ k = 1 ∨ k = 2 ∨ k = 3 ∨ k = 4 ∨ k = 5 ∨ k = 6 ∨ k = 7 ∨ k = 8 ∨ k = 9 ∨ k = 10 ∨ k = 11 := by omega
  rcases hb with rfl | rfl <;> rcases hk with rfl | rfl | rfl | rfl | rfl | rfl | rfl | rfl | rfl | rfl | rfl | rfl <;> decide
theorem shl_1 {n : Nat} (h : n < 12) : iI 1 <<< (iI (n : Int) &&& 31) = iI (2 ^ n) := by
  rw [shl_b (Or.inr rfl) (by omega) (by omega)]
  simp
/-- turns of the first meters -/
def tnF (S : Int → Int) (m : Int) : Int := S (11 + 13 * m + 3) + S (11 + 13 * m + 4)
def tnS (S : Int → Int) : Nat → Int
  | 0 => 0
  | k + 1 => tnS S k + tnF S k
def alF (S : Int → Int) (x : Int) : Int :=
  if x = 4 then bts (fun j => decide (S (102 + 3 * j + 2) = 1)) (S 8).toNat else if x = 5 then bts (fun k => decide (S (11 + 13 * k + 7) = 1)) (S 7).toNat else tnS S (S 7).toNat
def cntF (S : Int → Int) (ln kn x : Int) : Int :=
  if x = 0 then S 6 else if x = 1 then (if ngt (S 6) then 1 else 0) else if x = 2 then S 7 else if x = 3 then S 8 else if x = 4 ∨ x = 5 ∨ x = 6 then alF S x
  else if x = 7 then S 9 else if x = 8 then S 10 else if x = 15 then ln else if x = 16 then kn else if 9 ≤ x ∧ x ≤ 14 then S (x - 9) else -2
def uwF (S : Int → Int) (m : Int) : Int := if S (11 + 13 * m + 2) = 160 then -6 else if S 3 - S (11 + 13 * m + 9) < 1 then 1 else S 3 - S (11 + 13 * m + 9)
def ofF (S : Int → Int) (m x : Int) : Int :=
  if ¬ (0 ≤ m ∧ m < S 7) then -1 else if x = 0 then (if S (11 + 13 * m) < 0 then -6 else S (11 + 13 * m)) else if x = 1 then pw S m else if x = 2 then S (11 + 13 * m + 1) else if x = 3 then S (11 + 13 * m + 2)
  else if x = 4 then S (11 + 13 * m + 3) else if x = 5 then S (11 + 13 * m + 4) else if x = 6 then S (11 + 13 * m + 5) / 6000 else if x = 7 then S (11 + 13 * m + 6) else if x = 8 then S (11 + 13 * m + 7)
  else if x = 9 then S (11 + 13 * m + 8) else if x = 10 then uwF S m else if x = 11 then S (11 + 13 * m + 10) else -2
def olF (S : Int → Int) (j x : Int) : Int := if ¬ (0 ≤ j ∧ j < S 8) then -1 else if 0 ≤ x ∧ x ≤ 2 then S (102 + 3 * j + x) else -2
def msF (S : Int → Int) (m : Int) : Int := S (11 + 13 * m + 5) - 6000 * tnF S m - S (11 + 13 * m + 1) + 10000000000
def lgS (S : Int → Int) (m : Int) : Nat → Int
  | 0 => 10000000 - tnF S m
  | k + 1 => lgS S m k + if S (11 + 13 * ((k : Int) + 1)) = m then tnF S ((k : Int) + 1) else 0
/-- the worst of the first k meters -/
def woF (S : Int → Int) : Nat → Int
  | 0 => -6
  | k + 1 => if woF S k = -6 ∨ msF S (woF S k) < msF S k then k else woF S k
theorem woF_r {S : Int → Int} : ∀ k : Nat, woF S k = -6 ∨ (0 ≤ woF S k ∧ woF S k < k)
  | 0 => Or.inl rfl
  | k + 1 => by
    have ih := woF_r (S := S) k
    simp only [woF]
    split <;> omega

theorem mw_X2_whyNotMeter : mV "EnergyDiscsModel" yX2_whyNotMeter cX2_whyNotMeter 2 (some FieldType.int) 1 := ⟨⟨rfl, by decide +kernel, by decide +kernel, by decide +kernel⟩, q1303, qs42, q82, q1304⟩
set_option maxHeartbeats 4000000 in
theorem m_X2_whyNotMeter {l : Launch} {D : va_G} {X : Nat → Nat} {b0 : Nat} {α : Nat → Nat} {S P L V Pd : Int → Int} {kn ln : Int} {G : gM} (hα : aN α) {t : Int} (h7 : 0 ≤ S 7 ∧ S 7 ≤ 7) (ht : rI t) : gMet l D X b0 yX2_whyNotMeter cX2_whyNotMeter 2 (some FieldType.int) (rmE 2 0 0) [.ref (α 0), .int (iI t)] (tG D α S P kn L V Pd ln G) (eI (wnM S t) (tG D α S P kn L V Pd ln G)) := by
  refine gm_start (own := "EnergyDiscsModel") (lv := [some (.ref (α 0)), some (.int (iI t))]) (by decide +kernel) rfl (Nat.le_of_ble_eq_true rfl) rfl (fun p_ e_ s_ m_ args_ below_ meth_ c_ hc hnm => ?_)
  refine gw_aload_n (q := 1) hc dX2_whyNotMeter_0 rfl rfl xg_0 ?_
  refine gw_bipush (q := 3) hc dX2_whyNotMeter_1 rfl (by decide) ?_
  refine gw_callV (q := 6) (bc' := 0) (bs' := 0) (As := [_]) hc dX2_whyNotMeter_3 rfl q1293 mw_X2_num (rc_o hc cE_MO (tg_m hα)) rfl rfl (m_X2_num hα (by omega)) ⟨Nat.le_of_ble_eq_true rfl, Nat.le_of_ble_eq_true rfl⟩ (Nat.le_of_ble_eq_true rfl) (Nat.le_of_ble_eq_true rfl) (Nat.le_of_ble_eq_true rfl) (goI fun r3 G3 h3 => ?_)
  obtain ⟨rfl, rfl⟩ := h3
  refine gw_if_le  (q := 9) (t := 21) hc dX2_whyNotMeter_6 rfl (by decide) (by omega) (fun c6 => ?_) (fun c6 => ?_)
  · skip
    refine gw_aload_n (q := 22) hc dX2_whyNotMeter_21 rfl rfl xg_0 ?_
    refine gw_bipush (q := 24) hc dX2_whyNotMeter_22 rfl (by decide) ?_
    refine gw_callV (q := 27) (bc' := 0) (bs' := 0) (As := [_]) hc dX2_whyNotMeter_24 rfl q1293 mw_X2_num (rc_o hc cE_MO (tg_m hα)) rfl rfl (m_X2_num hα (by omega)) ⟨Nat.le_of_ble_eq_true rfl, Nat.le_of_ble_eq_true rfl⟩ (Nat.le_of_ble_eq_true rfl) (Nat.le_of_ble_eq_true rfl) (Nat.le_of_ble_eq_true rfl) (goI fun r24 G24 h24 => ?_)
    obtain ⟨rfl, rfl⟩ := h24
    refine gw_bipush (q := 29) hc dX2_whyNotMeter_27 rfl (by decide) ?_
    refine gw_icmp_ne  (q := 32) (t := 37) hc dX2_whyNotMeter_29 rfl (by decide) (by omega) (by omega) (fun c29 => ?_) (fun c29 => ?_)
    · skip
      refine gw_iconst (q := 38) hc dX2_whyNotMeter_37 rfl ?_
      exact gw_iret hc dX2_whyNotMeter_38 ⟨_, rfl, ⟨by unfold wnM; (repeat' split) <;> omega, rfl⟩⟩
    · skip
      refine gw_bipush (q := 34) hc dX2_whyNotMeter_32 rfl (by decide) ?_
      refine gw_goto (q := 38) hc dX2_whyNotMeter_34 (by decide) ?_
      exact gw_iret hc dX2_whyNotMeter_38 ⟨_, rfl, ⟨by unfold wnM; (repeat' split) <;> omega, rfl⟩⟩
  · skip
    refine gw_aload_n (q := 10) hc dX2_whyNotMeter_9 rfl rfl xg_0 ?_
    refine gw_iload_n (q := 11) hc dX2_whyNotMeter_10 rfl rfl xg_1 ?_
    refine gw_callV (q := 14) (bc' := 0) (bs' := 0) (As := [_]) hc dX2_whyNotMeter_11 rfl q1305 mw_X2_isMeter (rc_o hc cE_MO (tg_m hα)) rfl rfl (m_X2_isMeter hα (by omega) (by omega)) ⟨Nat.le_of_ble_eq_true rfl, Nat.le_of_ble_eq_true rfl⟩ (Nat.le_of_ble_eq_true rfl) (Nat.le_of_ble_eq_true rfl) (Nat.le_of_ble_eq_true rfl) (goI fun r11 G11 h11 => ?_)
    obtain ⟨b11, rfl⟩ := h11
    refine gw_if_ne  (q := 17) (t := 21) hc dX2_whyNotMeter_14 rfl (by decide) (by omega) (fun c14 => ?_) (fun c14 => ?_)
    · skip
      refine gw_aload_n (q := 22) hc dX2_whyNotMeter_21 rfl rfl xg_0 ?_
      refine gw_bipush (q := 24) hc dX2_whyNotMeter_22 rfl (by decide) ?_
      refine gw_callV (q := 27) (bc' := 0) (bs' := 0) (As := [_]) hc dX2_whyNotMeter_24 rfl q1293 mw_X2_num (rc_o hc cE_MO (tg_m hα)) rfl rfl (m_X2_num hα (by omega)) ⟨Nat.le_of_ble_eq_true rfl, Nat.le_of_ble_eq_true rfl⟩ (Nat.le_of_ble_eq_true rfl) (Nat.le_of_ble_eq_true rfl) (Nat.le_of_ble_eq_true rfl) (goI fun r24 G24 h24 => ?_)
      obtain ⟨rfl, rfl⟩ := h24
      refine gw_bipush (q := 29) hc dX2_whyNotMeter_27 rfl (by decide) ?_
      refine gw_icmp_ne  (q := 32) (t := 37) hc dX2_whyNotMeter_29 rfl (by decide) (by omega) (by omega) (fun c29 => ?_) (fun c29 => ?_)
      · skip
        refine gw_iconst (q := 38) hc dX2_whyNotMeter_37 rfl ?_
        exact gw_iret hc dX2_whyNotMeter_38 ⟨_, rfl, ⟨by unfold wnM; (repeat' split) <;> omega, rfl⟩⟩
      · skip
        refine gw_bipush (q := 34) hc dX2_whyNotMeter_32 rfl (by decide) ?_
        refine gw_goto (q := 38) hc dX2_whyNotMeter_34 (by decide) ?_
        exact gw_iret hc dX2_whyNotMeter_38 ⟨_, rfl, ⟨by unfold wnM; (repeat' split) <;> omega, rfl⟩⟩
    · skip
      refine gw_iconst (q := 18) hc dX2_whyNotMeter_17 rfl ?_
      refine gw_goto (q := 38) hc dX2_whyNotMeter_18 (by decide) ?_
      exact gw_iret hc dX2_whyNotMeter_38 ⟨_, rfl, ⟨by unfold wnM; (repeat' split) <;> omega, rfl⟩⟩

theorem mw_X2_whyNotLoad : mV "EnergyDiscsModel" yX2_whyNotLoad cX2_whyNotLoad 3 (some FieldType.int) 2 := ⟨⟨rfl, by decide +kernel, by decide +kernel, by decide +kernel⟩, q1324, qs45, q82, q1325⟩
set_option maxHeartbeats 4000000 in
theorem m_X2_whyNotLoad {l : Launch} {D : va_G} {X : Nat → Nat} {b0 : Nat} {α : Nat → Nat} {S P L V Pd : Int → Int} {kn ln : Int} {G : gM} (hα : aN α) {m : Int} {w : Int} (h7 : 0 ≤ S 7 ∧ S 7 ≤ 7) (h8 : 0 ≤ S 8 ∧ S 8 ≤ 12) (hm : rI m) (hw : rI w) : gMet l D X b0 yX2_whyNotLoad cX2_whyNotLoad 3 (some FieldType.int) (rmE 2 0 0) [.ref (α 0), .int (iI m), .int (iI w)] (tG D α S P kn L V Pd ln G) (eI (wnL S m w) (tG D α S P kn L V Pd ln G)) := by
  refine gm_start (own := "EnergyDiscsModel") (lv := [some (.ref (α 0)), some (.int (iI m)), some (.int (iI w))]) (by decide +kernel) rfl (Nat.le_of_ble_eq_true rfl) rfl (fun p_ e_ s_ m_ args_ below_ meth_ c_ hc hnm => ?_)
  refine gw_aload_n (q := 1) hc dX2_whyNotLoad_0 rfl rfl xg_0 ?_
  refine gw_iload_n (q := 2) hc dX2_whyNotLoad_1 rfl rfl xg_1 ?_
  refine gw_callV (q := 5) (bc' := 0) (bs' := 0) (As := [_]) hc dX2_whyNotLoad_2 rfl q1305 mw_X2_isMeter (rc_o hc cE_MO (tg_m hα)) rfl rfl (m_X2_isMeter hα (by omega) (by omega)) ⟨Nat.le_of_ble_eq_true rfl, Nat.le_of_ble_eq_true rfl⟩ (Nat.le_of_ble_eq_true rfl) (Nat.le_of_ble_eq_true rfl) (Nat.le_of_ble_eq_true rfl) (goI fun r2 G2 h2 => ?_)
  obtain ⟨b2, rfl⟩ := h2
  refine gw_if_ne  (q := 8) (t := 12) hc dX2_whyNotLoad_5 rfl (by decide) (by omega) (fun c5 => ?_) (fun c5 => ?_)
  · skip
    refine gw_iload_n (q := 13) hc dX2_whyNotLoad_12 rfl rfl xg_2 ?_
    refine gw_iconst (q := 14) hc dX2_whyNotLoad_13 rfl ?_
    refine gw_sipush (q := 17) hc dX2_whyNotLoad_14 rfl (by decide) ?_
    refine gw_callS (q := 20) (bc' := 0) (bs' := 0) (As := [_, _, _]) hc dX2_whyNotLoad_17 rfl q1280 mw_X2_in rfl rfl (m_X2_in (by omega) (by omega) (by omega)) ⟨Nat.le_of_ble_eq_true rfl, Nat.le_of_ble_eq_true rfl⟩ (Nat.le_of_ble_eq_true rfl) (Nat.le_of_ble_eq_true rfl) (Nat.le_of_ble_eq_true rfl) (goI fun r17 G17 h17 => ?_)
    obtain ⟨b17, rfl⟩ := h17
    refine gw_if_ne  (q := 23) (t := 28) hc dX2_whyNotLoad_20 rfl (by decide) (by omega) (fun c20 => ?_) (fun c20 => ?_)
    · skip
      refine gw_aload_n (q := 29) hc dX2_whyNotLoad_28 rfl rfl xg_0 ?_
      refine gw_bipush (q := 31) hc dX2_whyNotLoad_29 rfl (by decide) ?_
      refine gw_callV (q := 34) (bc' := 0) (bs' := 0) (As := [_]) hc dX2_whyNotLoad_31 rfl q1293 mw_X2_num (rc_o hc cE_MO (tg_m hα)) rfl rfl (m_X2_num hα (by omega)) ⟨Nat.le_of_ble_eq_true rfl, Nat.le_of_ble_eq_true rfl⟩ (Nat.le_of_ble_eq_true rfl) (Nat.le_of_ble_eq_true rfl) (Nat.le_of_ble_eq_true rfl) (goI fun r31 G31 h31 => ?_)
      obtain ⟨rfl, rfl⟩ := h31
      refine gw_bipush (q := 36) hc dX2_whyNotLoad_34 rfl (by decide) ?_
      refine gw_icmp_ne  (q := 39) (t := 44) hc dX2_whyNotLoad_36 rfl (by decide) (by omega) (by omega) (fun c36 => ?_) (fun c36 => ?_)
      · skip
        refine gw_iconst (q := 45) hc dX2_whyNotLoad_44 rfl ?_
        exact gw_iret hc dX2_whyNotLoad_45 ⟨_, rfl, ⟨by unfold wnL; (repeat' split) <;> omega, rfl⟩⟩
      · skip
        refine gw_bipush (q := 41) hc dX2_whyNotLoad_39 rfl (by decide) ?_
        refine gw_goto (q := 45) hc dX2_whyNotLoad_41 (by decide) ?_
        exact gw_iret hc dX2_whyNotLoad_45 ⟨_, rfl, ⟨by unfold wnL; (repeat' split) <;> omega, rfl⟩⟩
    · skip
      refine gw_bipush (q := 25) hc dX2_whyNotLoad_23 rfl (by decide) ?_
      refine gw_goto (q := 45) hc dX2_whyNotLoad_25 (by decide) ?_
      exact gw_iret hc dX2_whyNotLoad_45 ⟨_, rfl, ⟨by unfold wnL; (repeat' split) <;> omega, rfl⟩⟩
  · skip
    refine gw_iconst (q := 9) hc dX2_whyNotLoad_8 rfl ?_
    refine gw_goto (q := 45) hc dX2_whyNotLoad_9 (by decide) ?_
    exact gw_iret hc dX2_whyNotLoad_45 ⟨_, rfl, ⟨by unfold wnL; (repeat' split) <;> omega, rfl⟩⟩

theorem mw_X2_whyNotTamper : mV "EnergyDiscsModel" yX2_whyNotTamper cX2_whyNotTamper 2 (some FieldType.int) 1 := ⟨⟨rfl, by decide +kernel, by decide +kernel, by decide +kernel⟩, q1348, qs49, q82, q1349⟩
set_option maxHeartbeats 4000000 in
theorem m_X2_whyNotTamper {l : Launch} {D : va_G} {X : Nat → Nat} {b0 : Nat} {α : Nat → Nat} {S P L V Pd : Int → Int} {kn ln : Int} {G : gM} (hα : aN α) {m : Int} (h7 : 0 ≤ S 7 ∧ S 7 ≤ 7) (hm : rI m) (hb : ∀ k, 0 ≤ k → k < S 7 → S (11 + 13 * k + 7) = 0 ∨ S (11 + 13 * k + 7) = 1) : gMet l D X b0 yX2_whyNotTamper cX2_whyNotTamper 2 (some FieldType.int) (rmE 2 0 0) [.ref (α 0), .int (iI m)] (tG D α S P kn L V Pd ln G) (eI (wnT S m) (tG D α S P kn L V Pd ln G)) := by
  refine gm_start (own := "EnergyDiscsModel") (lv := [some (.ref (α 0)), some (.int (iI m))]) (by decide +kernel) rfl (Nat.le_of_ble_eq_true rfl) rfl (fun p_ e_ s_ m_ args_ below_ meth_ c_ hc hnm => ?_)
  refine gw_aload_n (q := 1) hc dX2_whyNotTamper_0 rfl rfl xg_0 ?_
  refine gw_iload_n (q := 2) hc dX2_whyNotTamper_1 rfl rfl xg_1 ?_
  refine gw_callV (q := 5) (bc' := 0) (bs' := 0) (As := [_]) hc dX2_whyNotTamper_2 rfl q1305 mw_X2_isMeter (rc_o hc cE_MO (tg_m hα)) rfl rfl (m_X2_isMeter hα (by omega) (by omega)) ⟨Nat.le_of_ble_eq_true rfl, Nat.le_of_ble_eq_true rfl⟩ (Nat.le_of_ble_eq_true rfl) (Nat.le_of_ble_eq_true rfl) (Nat.le_of_ble_eq_true rfl) (goI fun r2 G2 h2 => ?_)
  obtain ⟨b2, rfl⟩ := h2
  refine gw_if_ne  (q := 8) (t := 12) hc dX2_whyNotTamper_5 rfl (by decide) (by omega) (fun c5 => ?_) (fun c5 => ?_)
  · skip
    refine gw_aload_n (q := 13) hc dX2_whyNotTamper_12 rfl rfl xg_0 ?_
    refine gw_iload_n (q := 14) hc dX2_whyNotTamper_13 rfl rfl xg_1 ?_
    refine gw_bipush (q := 16) hc dX2_whyNotTamper_14 rfl (by decide) ?_
    refine gw_callV (q := 19) (bc' := 0) (bs' := 0) (As := [_, _]) hc dX2_whyNotTamper_16 rfl q1350 mw_X2_its (rc_o hc cE_MO (tg_m hα)) rfl rfl (m_X2_its hα (by omega)) ⟨Nat.le_of_ble_eq_true rfl, Nat.le_of_ble_eq_true rfl⟩ (Nat.le_of_ble_eq_true rfl) (Nat.le_of_ble_eq_true rfl) (Nat.le_of_ble_eq_true rfl) (goI fun r16 G16 h16 => ?_)
    obtain ⟨rfl, rfl⟩ := h16
    have hb1 := hb m (by omega) (by omega)
    refine gw_iconst (q := 20) hc dX2_whyNotTamper_19 rfl ?_
    refine gw_icmp_ne  (q := 23) (t := 28) hc dX2_whyNotTamper_20 rfl (by decide) (by omega) (by omega) (fun c20 => ?_) (fun c20 => ?_)
    · skip
      refine gw_iconst (q := 29) hc dX2_whyNotTamper_28 rfl ?_
      exact gw_iret hc dX2_whyNotTamper_29 ⟨_, rfl, ⟨by unfold wnT; (repeat' split) <;> omega, rfl⟩⟩
    · skip
      refine gw_bipush (q := 25) hc dX2_whyNotTamper_23 rfl (by decide) ?_
      refine gw_goto (q := 29) hc dX2_whyNotTamper_25 (by decide) ?_
      exact gw_iret hc dX2_whyNotTamper_29 ⟨_, rfl, ⟨by unfold wnT; (repeat' split) <;> omega, rfl⟩⟩
  · skip
    refine gw_iconst (q := 9) hc dX2_whyNotTamper_8 rfl ?_
    refine gw_goto (q := 29) hc dX2_whyNotTamper_9 (by decide) ?_
    exact gw_iret hc dX2_whyNotTamper_29 ⟨_, rfl, ⟨by unfold wnT; (repeat' split) <;> omega, rfl⟩⟩

theorem mw_X2_whyNotPass : mV "EnergyDiscsModel" yX2_whyNotPass cX2_whyNotPass 2 (some FieldType.int) 1 := ⟨⟨rfl, by decide +kernel, by decide +kernel, by decide +kernel⟩, q1372, qs53, q82, q1373⟩
set_option maxHeartbeats 4000000 in
theorem m_X2_whyNotPass {l : Launch} {D : va_G} {X : Nat → Nat} {b0 : Nat} {α : Nat → Nat} {S P L V Pd : Int → Int} {kn ln : Int} {G : gM} (hα : aN α) {t : Int} (ht : rI t) (h6 : 0 ≤ S 6 ∧ S 6 ≤ 99999) : gMet l D X b0 yX2_whyNotPass cX2_whyNotPass 2 (some FieldType.int) (rmE 1 0 0) [.ref (α 0), .int (iI t)] (tG D α S P kn L V Pd ln G) (eI (wnP S t) (tG D α S P kn L V Pd ln G)) := by
  refine gm_start (own := "EnergyDiscsModel") (lv := [some (.ref (α 0)), some (.int (iI t))]) (by decide +kernel) rfl (Nat.le_of_ble_eq_true rfl) rfl (fun p_ e_ s_ m_ args_ below_ meth_ c_ hc hnm => ?_)
  refine gw_iload_n (q := 1) hc dX2_whyNotPass_0 rfl rfl xg_1 ?_
  refine gw_iconst (q := 2) hc dX2_whyNotPass_1 rfl ?_
  refine gw_sipush (q := 5) hc dX2_whyNotPass_2 rfl (by decide) ?_
  refine gw_callS (q := 8) (bc' := 0) (bs' := 0) (As := [_, _, _]) hc dX2_whyNotPass_5 rfl q1280 mw_X2_in rfl rfl (m_X2_in (by omega) (by omega) (by omega)) ⟨Nat.le_of_ble_eq_true rfl, Nat.le_of_ble_eq_true rfl⟩ (Nat.le_of_ble_eq_true rfl) (Nat.le_of_ble_eq_true rfl) (Nat.le_of_ble_eq_true rfl) (goI fun r5 G5 h5 => ?_)
  obtain ⟨b5, rfl⟩ := h5
  refine gw_if_ne  (q := 11) (t := 16) hc dX2_whyNotPass_8 rfl (by decide) (by omega) (fun c8 => ?_) (fun c8 => ?_)
  · skip
    refine gw_aload_n (q := 17) hc dX2_whyNotPass_16 rfl rfl xg_0 ?_
    refine gw_bipush (q := 19) hc dX2_whyNotPass_17 rfl (by decide) ?_
    refine gw_callV (q := 22) (bc' := 0) (bs' := 0) (As := [_]) hc dX2_whyNotPass_19 rfl q1293 mw_X2_num (rc_o hc cE_MO (tg_m hα)) rfl rfl (m_X2_num hα (by omega)) ⟨Nat.le_of_ble_eq_true rfl, Nat.le_of_ble_eq_true rfl⟩ (Nat.le_of_ble_eq_true rfl) (Nat.le_of_ble_eq_true rfl) (Nat.le_of_ble_eq_true rfl) (goI fun r19 G19 h19 => ?_)
    obtain ⟨rfl, rfl⟩ := h19
    refine gw_iload_n (q := 23) hc dX2_whyNotPass_22 rfl rfl xg_1 ?_
    refine gw_iadd (q := 24) hc dX2_whyNotPass_23 rfl ?_
    refine gw_ldc (q := 26) hc dX2_whyNotPass_24 rfl (v := 99999) q1374 (by decide) ?_
    refine gw_icmp_le  (q := 29) (t := 34) hc dX2_whyNotPass_26 rfl (by decide) (by omega) (by omega) (fun c26 => ?_) (fun c26 => ?_)
    · skip
      refine gw_iconst (q := 35) hc dX2_whyNotPass_34 rfl ?_
      exact gw_iret hc dX2_whyNotPass_35 ⟨_, rfl, ⟨by unfold wnP; (repeat' split) <;> omega, rfl⟩⟩
    · skip
      refine gw_bipush (q := 31) hc dX2_whyNotPass_29 rfl (by decide) ?_
      refine gw_goto (q := 35) hc dX2_whyNotPass_31 (by decide) ?_
      exact gw_iret hc dX2_whyNotPass_35 ⟨_, rfl, ⟨by unfold wnP; (repeat' split) <;> omega, rfl⟩⟩
  · skip
    refine gw_bipush (q := 13) hc dX2_whyNotPass_11 rfl (by decide) ?_
    refine gw_goto (q := 35) hc dX2_whyNotPass_13 (by decide) ?_
    exact gw_iret hc dX2_whyNotPass_35 ⟨_, rfl, ⟨by unfold wnP; (repeat' split) <;> omega, rfl⟩⟩

theorem mw_X2_comes : mV "EnergyDiscsModel" yX2_comes cX2_comes 4 (some FieldType.int) 1 := ⟨⟨rfl, by decide +kernel, by decide +kernel, by decide +kernel⟩, q1311, qs44, q82, q1312⟩
set_option maxHeartbeats 4000000 in
theorem m_X2_comes {l : Launch} {D : va_G} {X : Nat → Nat} {b0 : Nat} {α : Nat → Nat} {S P L V Pd : Int → Int} {kn ln : Int} {G : gM} (hα : aN α) {t : Int} (h7 : 0 ≤ S 7 ∧ S 7 < 7) (ht : rI t) : gMet l D X b0 yX2_comes cX2_comes 4 (some FieldType.int) (rmE 1 0 0) [.ref (α 0), .int (iI t)] (tG D α S P kn L V Pd ln G) (eI (S 7) (tG D α (coF S t) P kn L V Pd ln G)) := by
  refine gm_start (own := "EnergyDiscsModel") (lv := [some (.ref (α 0)), some (.int (iI t)), none, none]) (by decide +kernel) rfl (Nat.le_of_ble_eq_true rfl) rfl (fun p_ e_ s_ m_ args_ below_ meth_ c_ hc hnm => ?_)
  refine gw_iconst (q := 1) hc dX2_comes_0 rfl ?_
  refine gw_aload_n (q := 2) hc dX2_comes_1 rfl rfl xg_0 ?_
  refine gw_bipush (q := 4) hc dX2_comes_2 rfl (by decide) ?_
  refine gw_callV (q := 7) (bc' := 0) (bs' := 0) (As := [_]) hc dX2_comes_4 rfl q1293 mw_X2_num (rc_o hc cE_MO (tg_m hα)) rfl rfl (m_X2_num hα (by omega)) ⟨Nat.le_of_ble_eq_true rfl, Nat.le_of_ble_eq_true rfl⟩ (Nat.le_of_ble_eq_true rfl) (Nat.le_of_ble_eq_true rfl) (Nat.le_of_ble_eq_true rfl) (goI fun r4 G4 h4 => ?_)
  obtain ⟨rfl, rfl⟩ := h4
  refine gw_callS (q := 10) (bc' := 0) (bs' := 0) (As := [_, _]) hc dX2_comes_7 rfl q1313 mw_X2_at rfl rfl (m_X2_at) ⟨Nat.le_of_ble_eq_true rfl, Nat.le_of_ble_eq_true rfl⟩ (Nat.le_of_ble_eq_true rfl) (Nat.le_of_ble_eq_true rfl) (Nat.le_of_ble_eq_true rfl) (goI fun r7 G7 h7 => ?_)
  obtain ⟨rfl, rfl⟩ := h7
  refine gw_istore_n (q := 11) hc dX2_comes_10 rfl rfl xs_2 (by decide) (n2p xg_1 rfl) ?_
  refine gw_iconst (q := 12) hc dX2_comes_11 rfl ?_
  refine gw_istore_n (q := 13) hc dX2_comes_12 rfl rfl xs_3 (by decide) (n2p xg_2 rfl) ?_
  refine gw_loop (σ := Nat) (fun x => (x : Int) ≤ 13) (fun x => 13 - x) (fun x => tG D α (coZ S x) P kn L V Pd ln G) (fun x => [some (.ref (α 0)), some (.int (iI t)), some (.int (iI (0 + 11 + 13 * S 7))), some (.int (iI (x : Int)))]) ?_ 0 (by omega)
  rintro k hI13 ih13
  try dsimp only at hI13 ⊢
  refine gw_iload_n (q := 14) hc dX2_comes_13 rfl rfl xg_3 ?_
  refine gw_bipush (q := 16) hc dX2_comes_14 rfl (by decide) ?_
  refine gw_icmp_ge  (q := 19) (t := 34) hc dX2_comes_16 rfl (by decide) (by omega) (by omega) (fun c16 => ?_) (fun c16 => ?_)
  · skip
    obtain rfl : k = 13 := by omega
    refine gw_aload_n (q := 35) hc dX2_comes_34 rfl rfl xg_0 ?_
    refine gw_get (q := 38) hc dX2_comes_35 rfl cE_MO 0 (by decide) q1252 (fun _ h => h) (tg_m hα) xg_0 ?_
    refine gw_bipush (q := 40) hc dX2_comes_38 rfl (by decide) ?_
    refine gw_dup2_11 (q := 41) hc dX2_comes_40 rfl rfl rfl ?_
    refine gw_lald (q := 42) hc dX2_comes_41 rfl (tg_s hα) (by omega) (by omega) ?_
    refine gw_lconst (q := 43) hc dX2_comes_42 rfl (v := 1) rfl ?_
    refine gw_ladd (q := 44) hc dX2_comes_43 rfl ?_
    refine gw_last (q := 45) hc dX2_comes_44 rfl (tg_s hα) (by omega) (by omega) ?_
    refine gw_G (tu_s hα) ?_
    refine gw_G (show _ = tG D α (co1 S) P kn L V Pd ln G from rfl) ?_
    refine gw_aload_n (q := 46) hc dX2_comes_45 rfl rfl xg_0 ?_
    refine gw_get (q := 49) hc dX2_comes_46 rfl cE_MO 0 (by decide) q1252 (fun _ h => h) (tg_m hα) xg_0 ?_
    refine gw_iload_n (q := 50) hc dX2_comes_49 rfl rfl xg_2 ?_
    refine gw_iconst (q := 51) hc dX2_comes_50 rfl ?_
    refine gw_iadd (q := 52) hc dX2_comes_51 rfl ?_
    refine gw_aload_n (q := 53) hc dX2_comes_52 rfl rfl xg_0 ?_
    refine gw_bipush (q := 55) hc dX2_comes_53 rfl (by decide) ?_
    refine gw_callV (q := 58) (bc' := 0) (bs' := 0) (As := [_]) hc dX2_comes_55 rfl q1293 mw_X2_num (rc_o hc cE_MO (tg_m hα)) rfl rfl (m_X2_num hα (by omega)) ⟨Nat.le_of_ble_eq_true rfl, Nat.le_of_ble_eq_true rfl⟩ (Nat.le_of_ble_eq_true rfl) (Nat.le_of_ble_eq_true rfl) (Nat.le_of_ble_eq_true rfl) (goI fun r55 G55 h55 => ?_)
    obtain ⟨e55, rfl⟩ := h55
    have e55 : r55 = S 7 := by rw [e55, co1, fu_n (by omega)]; exact coZ_o 13 (by omega)
    subst e55
    refine gw_if_ne  (q := 61) (t := 67) hc dX2_comes_58 rfl (by decide) (by omega) (fun c58 => ?_) (fun c58 => ?_)
    · skip
      refine gw_iload_n (q := 68) hc dX2_comes_67 rfl rfl xg_1 ?_
      refine gw_i2l (q := 69) hc dX2_comes_68 rfl (by omega) ?_
      refine gw_last (q := 70) hc dX2_comes_69 rfl (tg_s hα) (by omega) (by omega) ?_
      refine gw_G (tu_s hα) ?_
      refine gw_G (show _ = tG D α (co2 S t) P kn L V Pd ln G from by rw [show co2 S t = _ from rfl]; unfold co2; rw [if_neg c58]) ?_
      refine gw_aload_n (q := 71) hc dX2_comes_70 rfl rfl xg_0 ?_
      refine gw_get (q := 74) hc dX2_comes_71 rfl cE_MO 0 (by decide) q1252 (fun _ h => h) (tg_m hα) xg_0 ?_
      refine gw_iload_n (q := 75) hc dX2_comes_74 rfl rfl xg_2 ?_
      refine gw_iconst (q := 76) hc dX2_comes_75 rfl ?_
      refine gw_iadd (q := 77) hc dX2_comes_76 rfl ?_
      refine gw_ldc2 (q := 80) hc dX2_comes_77 rfl (v := 100) q1317 (by decide) ?_
      refine gw_last (q := 81) hc dX2_comes_80 rfl (tg_s hα) (by omega) (by omega) ?_
      refine gw_G (tu_s hα) ?_
      refine gw_G (show _ = tG D α (co3 S t) P kn L V Pd ln G from rfl) ?_
      refine gw_aload_n (q := 82) hc dX2_comes_81 rfl rfl xg_0 ?_
      refine gw_get (q := 85) hc dX2_comes_82 rfl cE_MO 0 (by decide) q1252 (fun _ h => h) (tg_m hα) xg_0 ?_
      refine gw_iload_n (q := 86) hc dX2_comes_85 rfl rfl xg_2 ?_
      refine gw_bipush (q := 88) hc dX2_comes_86 rfl (by decide) ?_
      refine gw_iadd (q := 89) hc dX2_comes_88 rfl ?_
      refine gw_aload_n (q := 90) hc dX2_comes_89 rfl rfl xg_0 ?_
      refine gw_get (q := 93) hc dX2_comes_90 rfl cE_MO 0 (by decide) q1252 (fun _ h => h) (tg_m hα) xg_0 ?_
      refine gw_bipush (q := 95) hc dX2_comes_93 rfl (by decide) ?_
      refine gw_lald (q := 96) hc dX2_comes_95 rfl (tg_s hα) (by omega) (by omega) ?_
      refine gw_last (q := 97) hc dX2_comes_96 rfl (tg_s hα) (by omega) (by omega) ?_
      refine gw_G (tu_s hα) ?_
      refine gw_G (show _ = tG D α (co4 S t) P kn L V Pd ln G from rfl) ?_
      refine gw_aload_n (q := 98) hc dX2_comes_97 rfl rfl xg_0 ?_
      refine gw_get (q := 101) hc dX2_comes_98 rfl cE_MO 0 (by decide) q1252 (fun _ h => h) (tg_m hα) xg_0 ?_
      refine gw_bipush (q := 103) hc dX2_comes_101 rfl (by decide) ?_
      refine gw_dup2_11 (q := 104) hc dX2_comes_103 rfl rfl rfl ?_
      refine gw_lald (q := 105) hc dX2_comes_104 rfl (tg_s hα) (by omega) (by omega) ?_
      refine gw_lconst (q := 106) hc dX2_comes_105 rfl (v := 1) rfl ?_
      refine gw_ladd (q := 107) hc dX2_comes_106 rfl ?_
      refine gw_last (q := 108) hc dX2_comes_107 rfl (tg_s hα) (by omega) (by omega) ?_
      refine gw_G (tu_s hα) ?_
      refine gw_G (show _ = tG D α (coF S t) P kn L V Pd ln G from rfl) ?_
      refine gw_aload_n (q := 109) hc dX2_comes_108 rfl rfl xg_0 ?_
      refine gw_bipush (q := 111) hc dX2_comes_109 rfl (by decide) ?_
      refine gw_callV (q := 114) (bc' := 0) (bs' := 0) (As := [_]) hc dX2_comes_111 rfl q1293 mw_X2_num (rc_o hc cE_MO (tg_m hα)) rfl rfl (m_X2_num hα (by omega)) ⟨Nat.le_of_ble_eq_true rfl, Nat.le_of_ble_eq_true rfl⟩ (Nat.le_of_ble_eq_true rfl) (Nat.le_of_ble_eq_true rfl) (Nat.le_of_ble_eq_true rfl) (goI fun r111 G111 h111 => ?_)
      obtain ⟨e111, rfl⟩ := h111
      have e111 : r111 = S 7 + 1 := by rw [e111, coF, fu_s, co4_7 h7.1]
      subst e111
      refine gw_iconst (q := 115) hc dX2_comes_114 rfl ?_
      refine gw_isub (q := 116) hc dX2_comes_115 rfl ?_
      exact gw_iret hc dX2_comes_116 ⟨_, rfl, ⟨by omega, rfl⟩⟩
    · skip
      refine gw_ldc2 (q := 64) hc dX2_comes_61 rfl (v := -1) q1316 (by decide) ?_
      refine gw_goto (q := 69) hc dX2_comes_64 (by decide) ?_
      refine gw_last (q := 70) hc dX2_comes_69 rfl (tg_s hα) (by omega) (by omega) ?_
      refine gw_G (tu_s hα) ?_
      refine gw_G (show _ = tG D α (co2 S t) P kn L V Pd ln G from by rw [show co2 S t = _ from rfl]; unfold co2; rw [if_pos c58]) ?_
      refine gw_aload_n (q := 71) hc dX2_comes_70 rfl rfl xg_0 ?_
      refine gw_get (q := 74) hc dX2_comes_71 rfl cE_MO 0 (by decide) q1252 (fun _ h => h) (tg_m hα) xg_0 ?_
      refine gw_iload_n (q := 75) hc dX2_comes_74 rfl rfl xg_2 ?_
      refine gw_iconst (q := 76) hc dX2_comes_75 rfl ?_
      refine gw_iadd (q := 77) hc dX2_comes_76 rfl ?_
      refine gw_ldc2 (q := 80) hc dX2_comes_77 rfl (v := 100) q1317 (by decide) ?_
      refine gw_last (q := 81) hc dX2_comes_80 rfl (tg_s hα) (by omega) (by omega) ?_
      refine gw_G (tu_s hα) ?_
      refine gw_G (show _ = tG D α (co3 S t) P kn L V Pd ln G from rfl) ?_
      refine gw_aload_n (q := 82) hc dX2_comes_81 rfl rfl xg_0 ?_
      refine gw_get (q := 85) hc dX2_comes_82 rfl cE_MO 0 (by decide) q1252 (fun _ h => h) (tg_m hα) xg_0 ?_
      refine gw_iload_n (q := 86) hc dX2_comes_85 rfl rfl xg_2 ?_
      refine gw_bipush (q := 88) hc dX2_comes_86 rfl (by decide) ?_
      refine gw_iadd (q := 89) hc dX2_comes_88 rfl ?_
      refine gw_aload_n (q := 90) hc dX2_comes_89 rfl rfl xg_0 ?_
      refine gw_get (q := 93) hc dX2_comes_90 rfl cE_MO 0 (by decide) q1252 (fun _ h => h) (tg_m hα) xg_0 ?_
      refine gw_bipush (q := 95) hc dX2_comes_93 rfl (by decide) ?_
      refine gw_lald (q := 96) hc dX2_comes_95 rfl (tg_s hα) (by omega) (by omega) ?_
      refine gw_last (q := 97) hc dX2_comes_96 rfl (tg_s hα) (by omega) (by omega) ?_
      refine gw_G (tu_s hα) ?_
      refine gw_G (show _ = tG D α (co4 S t) P kn L V Pd ln G from rfl) ?_
      refine gw_aload_n (q := 98) hc dX2_comes_97 rfl rfl xg_0 ?_
      refine gw_get (q := 101) hc dX2_comes_98 rfl cE_MO 0 (by decide) q1252 (fun _ h => h) (tg_m hα) xg_0 ?_
      refine gw_bipush (q := 103) hc dX2_comes_101 rfl (by decide) ?_
      refine gw_dup2_11 (q := 104) hc dX2_comes_103 rfl rfl rfl ?_
      refine gw_lald (q := 105) hc dX2_comes_104 rfl (tg_s hα) (by omega) (by omega) ?_
      refine gw_lconst (q := 106) hc dX2_comes_105 rfl (v := 1) rfl ?_
      refine gw_ladd (q := 107) hc dX2_comes_106 rfl ?_
      refine gw_last (q := 108) hc dX2_comes_107 rfl (tg_s hα) (by omega) (by omega) ?_
      refine gw_G (tu_s hα) ?_
      refine gw_G (show _ = tG D α (coF S t) P kn L V Pd ln G from rfl) ?_
      refine gw_aload_n (q := 109) hc dX2_comes_108 rfl rfl xg_0 ?_
      refine gw_bipush (q := 111) hc dX2_comes_109 rfl (by decide) ?_
      refine gw_callV (q := 114) (bc' := 0) (bs' := 0) (As := [_]) hc dX2_comes_111 rfl q1293 mw_X2_num (rc_o hc cE_MO (tg_m hα)) rfl rfl (m_X2_num hα (by omega)) ⟨Nat.le_of_ble_eq_true rfl, Nat.le_of_ble_eq_true rfl⟩ (Nat.le_of_ble_eq_true rfl) (Nat.le_of_ble_eq_true rfl) (Nat.le_of_ble_eq_true rfl) (goI fun r111 G111 h111 => ?_)
      obtain ⟨e111, rfl⟩ := h111
      have e111 : r111 = S 7 + 1 := by rw [e111, coF, fu_s, co4_7 h7.1]
      subst e111
      refine gw_iconst (q := 115) hc dX2_comes_114 rfl ?_
      refine gw_isub (q := 116) hc dX2_comes_115 rfl ?_
      exact gw_iret hc dX2_comes_116 ⟨_, rfl, ⟨by omega, rfl⟩⟩
  · skip
    refine gw_aload_n (q := 20) hc dX2_comes_19 rfl rfl xg_0 ?_
    refine gw_get (q := 23) hc dX2_comes_20 rfl cE_MO 0 (by decide) q1252 (fun _ h => h) (tg_m hα) xg_0 ?_
    refine gw_iload_n (q := 24) hc dX2_comes_23 rfl rfl xg_2 ?_
    refine gw_iload_n (q := 25) hc dX2_comes_24 rfl rfl xg_3 ?_
    refine gw_iadd (q := 26) hc dX2_comes_25 rfl ?_
    refine gw_lconst (q := 27) hc dX2_comes_26 rfl (v := 0) rfl ?_
    refine gw_last (q := 28) hc dX2_comes_27 rfl (tg_s hα) (by omega) (by omega) ?_
    refine gw_G (tu_s hα) ?_
    refine gw_iinc (q := 31) hc dX2_comes_28 rfl xg_3 xs_3 (by decide) (n2p xg_2 rfl) ?_
    refine gw_goto (q := 13) hc dX2_comes_31 (by decide) ?_
    exact ih13 (k + 1) (by omega) (by omega)

theorem mw_X2_loads : mV "EnergyDiscsModel" yX2_loads cX2_loads 4 (some FieldType.int) 2 := ⟨⟨rfl, by decide +kernel, by decide +kernel, by decide +kernel⟩, q1328, qs46, q82, q1329⟩
set_option maxHeartbeats 4000000 in
theorem m_X2_loads {l : Launch} {D : va_G} {X : Nat → Nat} {b0 : Nat} {α : Nat → Nat} {S P L V Pd : Int → Int} {kn ln : Int} {G : gM} (hα : aN α) {m : Int} {w : Int} (h8 : 0 ≤ S 8 ∧ S 8 < 12) (hm : rI m) (hw : rI w) : gMet l D X b0 yX2_loads cX2_loads 4 (some FieldType.int) (rmE 1 0 0) [.ref (α 0), .int (iI m), .int (iI w)] (tG D α S P kn L V Pd ln G) (eI (S 8) (tG D α (loF S m w) P kn L V Pd ln G)) := by
  refine gm_start (own := "EnergyDiscsModel") (lv := [some (.ref (α 0)), some (.int (iI m)), some (.int (iI w)), none]) (by decide +kernel) rfl (Nat.le_of_ble_eq_true rfl) rfl (fun p_ e_ s_ m_ args_ below_ meth_ c_ hc hnm => ?_)
  refine gw_bipush (q := 2) hc dX2_loads_0 rfl (by decide) ?_
  refine gw_iconst (q := 3) hc dX2_loads_2 rfl ?_
  refine gw_aload_n (q := 4) hc dX2_loads_3 rfl rfl xg_0 ?_
  refine gw_bipush (q := 6) hc dX2_loads_4 rfl (by decide) ?_
  refine gw_callV (q := 9) (bc' := 0) (bs' := 0) (As := [_]) hc dX2_loads_6 rfl q1293 mw_X2_num (rc_o hc cE_MO (tg_m hα)) rfl rfl (m_X2_num hα (by omega)) ⟨Nat.le_of_ble_eq_true rfl, Nat.le_of_ble_eq_true rfl⟩ (Nat.le_of_ble_eq_true rfl) (Nat.le_of_ble_eq_true rfl) (Nat.le_of_ble_eq_true rfl) (goI fun r6 G6 h6 => ?_)
  obtain ⟨rfl, rfl⟩ := h6
  refine gw_imul (q := 10) hc dX2_loads_9 rfl ?_
  refine gw_iadd (q := 11) hc dX2_loads_10 rfl ?_
  refine gw_istore_n (q := 12) hc dX2_loads_11 rfl rfl xs_3 (by decide) (n2p xg_2 rfl) ?_
  refine gw_aload_n (q := 13) hc dX2_loads_12 rfl rfl xg_0 ?_
  refine gw_get (q := 16) hc dX2_loads_13 rfl cE_MO 0 (by decide) q1252 (fun _ h => h) (tg_m hα) xg_0 ?_
  refine gw_iload_n (q := 17) hc dX2_loads_16 rfl rfl xg_3 ?_
  refine gw_iload_n (q := 18) hc dX2_loads_17 rfl rfl xg_1 ?_
  refine gw_i2l (q := 19) hc dX2_loads_18 rfl (by omega) ?_
  refine gw_last (q := 20) hc dX2_loads_19 rfl (tg_s hα) (by omega) (by omega) ?_
  refine gw_G (tu_s hα) ?_
  refine gw_aload_n (q := 21) hc dX2_loads_20 rfl rfl xg_0 ?_
  refine gw_get (q := 24) hc dX2_loads_21 rfl cE_MO 0 (by decide) q1252 (fun _ h => h) (tg_m hα) xg_0 ?_
  refine gw_iload_n (q := 25) hc dX2_loads_24 rfl rfl xg_3 ?_
  refine gw_iconst (q := 26) hc dX2_loads_25 rfl ?_
  refine gw_iadd (q := 27) hc dX2_loads_26 rfl ?_
  refine gw_iload_n (q := 28) hc dX2_loads_27 rfl rfl xg_2 ?_
  refine gw_i2l (q := 29) hc dX2_loads_28 rfl (by omega) ?_
  refine gw_last (q := 30) hc dX2_loads_29 rfl (tg_s hα) (by omega) (by omega) ?_
  refine gw_G (tu_s hα) ?_
  refine gw_aload_n (q := 31) hc dX2_loads_30 rfl rfl xg_0 ?_
  refine gw_get (q := 34) hc dX2_loads_31 rfl cE_MO 0 (by decide) q1252 (fun _ h => h) (tg_m hα) xg_0 ?_
  refine gw_iload_n (q := 35) hc dX2_loads_34 rfl rfl xg_3 ?_
  refine gw_iconst (q := 36) hc dX2_loads_35 rfl ?_
  refine gw_iadd (q := 37) hc dX2_loads_36 rfl ?_
  refine gw_lconst (q := 38) hc dX2_loads_37 rfl (v := 0) rfl ?_
  refine gw_last (q := 39) hc dX2_loads_38 rfl (tg_s hα) (by omega) (by omega) ?_
  refine gw_G (tu_s hα) ?_
  refine gw_G (show _ = tG D α (lo3 S m w) P kn L V Pd ln G from rfl) ?_
  refine gw_aload_n (q := 40) hc dX2_loads_39 rfl rfl xg_0 ?_
  refine gw_get (q := 43) hc dX2_loads_40 rfl cE_MO 0 (by decide) q1252 (fun _ h => h) (tg_m hα) xg_0 ?_
  refine gw_bipush (q := 45) hc dX2_loads_43 rfl (by decide) ?_
  refine gw_dup2_11 (q := 46) hc dX2_loads_45 rfl rfl rfl ?_
  refine gw_lald (q := 47) hc dX2_loads_46 rfl (tg_s hα) (by omega) (by omega) ?_
  refine gw_lconst (q := 48) hc dX2_loads_47 rfl (v := 1) rfl ?_
  refine gw_ladd (q := 49) hc dX2_loads_48 rfl ?_
  refine gw_last (q := 50) hc dX2_loads_49 rfl (tg_s hα) (by omega) (by omega) ?_
  refine gw_G (tu_s hα) ?_
  refine gw_G (show _ = tG D α (loF S m w) P kn L V Pd ln G from rfl) ?_
  refine gw_aload_n (q := 51) hc dX2_loads_50 rfl rfl xg_0 ?_
  refine gw_bipush (q := 53) hc dX2_loads_51 rfl (by decide) ?_
  refine gw_callV (q := 56) (bc' := 0) (bs' := 0) (As := [_]) hc dX2_loads_53 rfl q1293 mw_X2_num (rc_o hc cE_MO (tg_m hα)) rfl rfl (m_X2_num hα (by omega)) ⟨Nat.le_of_ble_eq_true rfl, Nat.le_of_ble_eq_true rfl⟩ (Nat.le_of_ble_eq_true rfl) (Nat.le_of_ble_eq_true rfl) (Nat.le_of_ble_eq_true rfl) (goI fun r53 G53 h53 => ?_)
  obtain ⟨e53, rfl⟩ := h53
  have e53 : r53 = S 8 + 1 := by rw [e53, loF, fu_s, lo3_8 h8.1]
  subst e53
  refine gw_iconst (q := 57) hc dX2_loads_56 rfl ?_
  refine gw_isub (q := 58) hc dX2_loads_57 rfl ?_
  exact gw_iret hc dX2_loads_58 ⟨_, rfl, ⟨by omega, rfl⟩⟩

theorem mw_X2_turns : mV "EnergyDiscsModel" yX2_turns cX2_turns 3 (some FieldType.int) 1 := ⟨⟨rfl, by decide +kernel, by decide +kernel, by decide +kernel⟩, q1340, qs48, q82, q1341⟩
set_option maxHeartbeats 4000000 in
theorem m_X2_turns {l : Launch} {D : va_G} {X : Nat → Nat} {b0 : Nat} {α : Nat → Nat} {S P L V Pd : Int → Int} {kn ln : Int} {G : gM} (hα : aN α) {j : Int} (hj : 0 ≤ j ∧ j < 12) : gMet l D X b0 yX2_turns cX2_turns 3 (some FieldType.int) (rmE 1 0 0) [.ref (α 0), .int (iI j)] (tG D α S P kn L V Pd ln G) (eI (1 - S (102 + 3 * j + 2)) (tG D α (tuF S j) P kn L V Pd ln G)) := by
  refine gm_start (own := "EnergyDiscsModel") (lv := [some (.ref (α 0)), some (.int (iI j)), none]) (by decide +kernel) rfl (Nat.le_of_ble_eq_true rfl) rfl (fun p_ e_ s_ m_ args_ below_ meth_ c_ hc hnm => ?_)
  refine gw_bipush (q := 2) hc dX2_turns_0 rfl (by decide) ?_
  refine gw_iconst (q := 3) hc dX2_turns_2 rfl ?_
  refine gw_iload_n (q := 4) hc dX2_turns_3 rfl rfl xg_1 ?_
  refine gw_imul (q := 5) hc dX2_turns_4 rfl ?_
  refine gw_iadd (q := 6) hc dX2_turns_5 rfl ?_
  refine gw_iconst (q := 7) hc dX2_turns_6 rfl ?_
  refine gw_iadd (q := 8) hc dX2_turns_7 rfl ?_
  refine gw_istore_n (q := 9) hc dX2_turns_8 rfl rfl xs_2 (by decide) (n2p xg_1 rfl) ?_
  refine gw_aload_n (q := 10) hc dX2_turns_9 rfl rfl xg_0 ?_
  refine gw_get (q := 13) hc dX2_turns_10 rfl cE_MO 0 (by decide) q1252 (fun _ h => h) (tg_m hα) xg_0 ?_
  refine gw_iload_n (q := 14) hc dX2_turns_13 rfl rfl xg_2 ?_
  refine gw_lconst (q := 15) hc dX2_turns_14 rfl (v := 1) rfl ?_
  refine gw_aload_n (q := 16) hc dX2_turns_15 rfl rfl xg_0 ?_
  refine gw_get (q := 19) hc dX2_turns_16 rfl cE_MO 0 (by decide) q1252 (fun _ h => h) (tg_m hα) xg_0 ?_
  refine gw_iload_n (q := 20) hc dX2_turns_19 rfl rfl xg_2 ?_
  refine gw_lald (q := 21) hc dX2_turns_20 rfl (tg_s hα) (by omega) (by omega) ?_
  refine gw_lsub (q := 22) hc dX2_turns_21 rfl ?_
  refine gw_last (q := 23) hc dX2_turns_22 rfl (tg_s hα) (by omega) (by omega) ?_
  refine gw_G (tu_s hα) ?_
  refine gw_G (show _ = tG D α (tuF S j) P kn L V Pd ln G from rfl) ?_
  refine gw_aload_n (q := 24) hc dX2_turns_23 rfl rfl xg_0 ?_
  refine gw_iload_n (q := 25) hc dX2_turns_24 rfl rfl xg_2 ?_
  refine gw_callV (q := 28) (bc' := 0) (bs' := 0) (As := [_]) hc dX2_turns_25 rfl q1293 mw_X2_num (rc_o hc cE_MO (tg_m hα)) rfl rfl (m_X2_num hα (by omega)) ⟨Nat.le_of_ble_eq_true rfl, Nat.le_of_ble_eq_true rfl⟩ (Nat.le_of_ble_eq_true rfl) (Nat.le_of_ble_eq_true rfl) (Nat.le_of_ble_eq_true rfl) (goI fun r25 G25 h25 => ?_)
  obtain ⟨rfl, rfl⟩ := h25
  exact gw_iret hc dX2_turns_28 ⟨_, rfl, ⟨by rw [tuF, fu_s], rfl⟩⟩

theorem mw_X2_billOf : mV "EnergyDiscsModel" yX2_billOf cX2_billOf 3 (some FieldType.int) 1 := ⟨⟨rfl, by decide +kernel, by decide +kernel, by decide +kernel⟩, q1364, qs52, q82, q1365⟩
set_option maxHeartbeats 4000000 in
theorem m_X2_billOf {l : Launch} {D : va_G} {X : Nat → Nat} {b0 : Nat} {α : Nat → Nat} {S P L V Pd : Int → Int} {kn ln : Int} {G : gM} (hα : aN α) {m : Int} (hm : 0 ≤ m ∧ m < 7) : gMet l D X b0 yX2_billOf cX2_billOf 3 (some FieldType.int) (rmE 1 0 0) [.ref (α 0), .int (iI m)] (tG D α S P kn L V Pd ln G) (eI (biF S m) (tG D α S P kn L V Pd ln G)) := by
  refine gm_start (own := "EnergyDiscsModel") (lv := [some (.ref (α 0)), some (.int (iI m)), none]) (by decide +kernel) rfl (Nat.le_of_ble_eq_true rfl) rfl (fun p_ e_ s_ m_ args_ below_ meth_ c_ hc hnm => ?_)
  refine gw_iconst (q := 1) hc dX2_billOf_0 rfl ?_
  refine gw_iload_n (q := 2) hc dX2_billOf_1 rfl rfl xg_1 ?_
  refine gw_callS (q := 5) (bc' := 0) (bs' := 0) (As := [_, _]) hc dX2_billOf_2 rfl q1313 mw_X2_at rfl rfl (m_X2_at) ⟨Nat.le_of_ble_eq_true rfl, Nat.le_of_ble_eq_true rfl⟩ (Nat.le_of_ble_eq_true rfl) (Nat.le_of_ble_eq_true rfl) (Nat.le_of_ble_eq_true rfl) (goI fun r2 G2 h2 => ?_)
  obtain ⟨rfl, rfl⟩ := h2
  refine gw_istore_n (q := 6) hc dX2_billOf_5 rfl rfl xs_2 (by decide) (n2p xg_1 rfl) ?_
  refine gw_aload_n (q := 7) hc dX2_billOf_6 rfl rfl xg_0 ?_
  refine gw_get (q := 10) hc dX2_billOf_7 rfl cE_MO 0 (by decide) q1252 (fun _ h => h) (tg_m hα) xg_0 ?_
  refine gw_iconst (q := 11) hc dX2_billOf_10 rfl ?_
  refine gw_lald (q := 12) hc dX2_billOf_11 rfl (tg_s hα) (by omega) (by omega) ?_
  refine gw_aload_n (q := 13) hc dX2_billOf_12 rfl rfl xg_0 ?_
  refine gw_get (q := 16) hc dX2_billOf_13 rfl cE_MO 0 (by decide) q1252 (fun _ h => h) (tg_m hα) xg_0 ?_
  refine gw_iload_n (q := 17) hc dX2_billOf_16 rfl rfl xg_2 ?_
  refine gw_iconst (q := 18) hc dX2_billOf_17 rfl ?_
  refine gw_iadd (q := 19) hc dX2_billOf_18 rfl ?_
  refine gw_lald (q := 20) hc dX2_billOf_19 rfl (tg_s hα) (by omega) (by omega) ?_
  refine gw_aload_n (q := 21) hc dX2_billOf_20 rfl rfl xg_0 ?_
  refine gw_get (q := 24) hc dX2_billOf_21 rfl cE_MO 0 (by decide) q1252 (fun _ h => h) (tg_m hα) xg_0 ?_
  refine gw_iload_n (q := 25) hc dX2_billOf_24 rfl rfl xg_2 ?_
  refine gw_bipush (q := 27) hc dX2_billOf_25 rfl (by decide) ?_
  refine gw_iadd (q := 28) hc dX2_billOf_27 rfl ?_
  refine gw_lald (q := 29) hc dX2_billOf_28 rfl (tg_s hα) (by omega) (by omega) ?_
  refine gw_lsub (q := 30) hc dX2_billOf_29 rfl ?_
  refine gw_lmul (q := 31) hc dX2_billOf_30 rfl ?_
  refine gw_aload_n (q := 32) hc dX2_billOf_31 rfl rfl xg_0 ?_
  refine gw_get (q := 35) hc dX2_billOf_32 rfl cE_MO 0 (by decide) q1252 (fun _ h => h) (tg_m hα) xg_0 ?_
  refine gw_iconst (q := 36) hc dX2_billOf_35 rfl ?_
  refine gw_lald (q := 37) hc dX2_billOf_36 rfl (tg_s hα) (by omega) (by omega) ?_
  refine gw_aload_n (q := 38) hc dX2_billOf_37 rfl rfl xg_0 ?_
  refine gw_get (q := 41) hc dX2_billOf_38 rfl cE_MO 0 (by decide) q1252 (fun _ h => h) (tg_m hα) xg_0 ?_
  refine gw_iload_n (q := 42) hc dX2_billOf_41 rfl rfl xg_2 ?_
  refine gw_iconst (q := 43) hc dX2_billOf_42 rfl ?_
  refine gw_iadd (q := 44) hc dX2_billOf_43 rfl ?_
  refine gw_lald (q := 45) hc dX2_billOf_44 rfl (tg_s hα) (by omega) (by omega) ?_
  refine gw_aload_n (q := 46) hc dX2_billOf_45 rfl rfl xg_0 ?_
  refine gw_get (q := 49) hc dX2_billOf_46 rfl cE_MO 0 (by decide) q1252 (fun _ h => h) (tg_m hα) xg_0 ?_
  refine gw_iload_n (q := 50) hc dX2_billOf_49 rfl rfl xg_2 ?_
  refine gw_bipush (q := 52) hc dX2_billOf_50 rfl (by decide) ?_
  refine gw_iadd (q := 53) hc dX2_billOf_52 rfl ?_
  refine gw_lald (q := 54) hc dX2_billOf_53 rfl (tg_s hα) (by omega) (by omega) ?_
  refine gw_lsub (q := 55) hc dX2_billOf_54 rfl ?_
  refine gw_lmul (q := 56) hc dX2_billOf_55 rfl ?_
  refine gw_ladd (q := 57) hc dX2_billOf_56 rfl ?_
  refine gw_l2i (q := 58) hc dX2_billOf_57 rfl ?_
  exact gw_iret hc dX2_billOf_58 ⟨_, rfl, ⟨rfl, rfl⟩⟩

theorem mw_X2_visits : mV "EnergyDiscsModel" yX2_visits cX2_visits 4 (some FieldType.int) 1 := ⟨⟨rfl, by decide +kernel, by decide +kernel, by decide +kernel⟩, q1360, qs51, q82, q1361⟩
set_option maxHeartbeats 4000000 in
theorem m_X2_visits {l : Launch} {D : va_G} {X : Nat → Nat} {b0 : Nat} {α : Nat → Nat} {S P L V Pd : Int → Int} {kn ln : Int} {G : gM} (hα : aN α) {m : Int} (hm : 0 ≤ m ∧ m < 7) (hb : rI (biF S m)) (h7 : S (0 + 11 + 13 * m + 7) = 0 ∨ S (0 + 11 + 13 * m + 7) = 1) : gMet l D X b0 yX2_visits cX2_visits 4 (some FieldType.int) (rmE 2 0 0) [.ref (α 0), .int (iI m)] (tG D α S P kn L V Pd ln G) (eI (biF S m) (tG D α (viF S m) P kn L V Pd ln G)) := by
  refine gm_start (own := "EnergyDiscsModel") (lv := [some (.ref (α 0)), some (.int (iI m)), none, none]) (by decide +kernel) rfl (Nat.le_of_ble_eq_true rfl) rfl (fun p_ e_ s_ m_ args_ below_ meth_ c_ hc hnm => ?_)
  refine gw_iconst (q := 1) hc dX2_visits_0 rfl ?_
  refine gw_iload_n (q := 2) hc dX2_visits_1 rfl rfl xg_1 ?_
  refine gw_callS (q := 5) (bc' := 0) (bs' := 0) (As := [_, _]) hc dX2_visits_2 rfl q1313 mw_X2_at rfl rfl (m_X2_at) ⟨Nat.le_of_ble_eq_true rfl, Nat.le_of_ble_eq_true rfl⟩ (Nat.le_of_ble_eq_true rfl) (Nat.le_of_ble_eq_true rfl) (Nat.le_of_ble_eq_true rfl) (goI fun r2 G2 h2 => ?_)
  obtain ⟨rfl, rfl⟩ := h2
  refine gw_istore_n (q := 6) hc dX2_visits_5 rfl rfl xs_2 (by decide) (n2p xg_1 rfl) ?_
  refine gw_aload_n (q := 7) hc dX2_visits_6 rfl rfl xg_0 ?_
  refine gw_iload_n (q := 8) hc dX2_visits_7 rfl rfl xg_1 ?_
  refine gw_callV (q := 11) (bc' := 0) (bs' := 0) (As := [_]) hc dX2_visits_8 rfl q1362 mw_X2_billOf (rc_o hc cE_MO (tg_m hα)) rfl rfl (m_X2_billOf hα hm) ⟨Nat.le_of_ble_eq_true rfl, Nat.le_of_ble_eq_true rfl⟩ (Nat.le_of_ble_eq_true rfl) (Nat.le_of_ble_eq_true rfl) (Nat.le_of_ble_eq_true rfl) (goI fun r8 G8 h8 => ?_)
  obtain ⟨rfl, rfl⟩ := h8
  refine gw_istore_n (q := 12) hc dX2_visits_11 rfl rfl xs_3 (by decide) (n2p xg_2 rfl) ?_
  refine gw_aload_n (q := 13) hc dX2_visits_12 rfl rfl xg_0 ?_
  refine gw_get (q := 16) hc dX2_visits_13 rfl cE_MO 0 (by decide) q1252 (fun _ h => h) (tg_m hα) xg_0 ?_
  refine gw_iload_n (q := 17) hc dX2_visits_16 rfl rfl xg_2 ?_
  refine gw_bipush (q := 19) hc dX2_visits_17 rfl (by decide) ?_
  refine gw_iadd (q := 20) hc dX2_visits_19 rfl ?_
  refine gw_aload_n (q := 21) hc dX2_visits_20 rfl rfl xg_0 ?_
  refine gw_get (q := 24) hc dX2_visits_21 rfl cE_MO 0 (by decide) q1252 (fun _ h => h) (tg_m hα) xg_0 ?_
  refine gw_iload_n (q := 25) hc dX2_visits_24 rfl rfl xg_2 ?_
  refine gw_iconst (q := 26) hc dX2_visits_25 rfl ?_
  refine gw_iadd (q := 27) hc dX2_visits_26 rfl ?_
  refine gw_lald (q := 28) hc dX2_visits_27 rfl (tg_s hα) (by omega) (by omega) ?_
  refine gw_last (q := 29) hc dX2_visits_28 rfl (tg_s hα) (by omega) (by omega) ?_
  refine gw_G (tu_s hα) ?_
  refine gw_G (show _ = tG D α (vi1 S m) P kn L V Pd ln G from rfl) ?_
  refine gw_aload_n (q := 30) hc dX2_visits_29 rfl rfl xg_0 ?_
  refine gw_get (q := 33) hc dX2_visits_30 rfl cE_MO 0 (by decide) q1252 (fun _ h => h) (tg_m hα) xg_0 ?_
  refine gw_iload_n (q := 34) hc dX2_visits_33 rfl rfl xg_2 ?_
  refine gw_bipush (q := 36) hc dX2_visits_34 rfl (by decide) ?_
  refine gw_iadd (q := 37) hc dX2_visits_36 rfl ?_
  refine gw_aload_n (q := 38) hc dX2_visits_37 rfl rfl xg_0 ?_
  refine gw_get (q := 41) hc dX2_visits_38 rfl cE_MO 0 (by decide) q1252 (fun _ h => h) (tg_m hα) xg_0 ?_
  refine gw_iload_n (q := 42) hc dX2_visits_41 rfl rfl xg_2 ?_
  refine gw_iconst (q := 43) hc dX2_visits_42 rfl ?_
  refine gw_iadd (q := 44) hc dX2_visits_43 rfl ?_
  refine gw_lald (q := 45) hc dX2_visits_44 rfl (tg_s hα) (by omega) (by omega) ?_
  refine gw_last (q := 46) hc dX2_visits_45 rfl (tg_s hα) (by omega) (by omega) ?_
  refine gw_G (tu_s hα) ?_
  refine gw_G (show _ = tG D α (vi2 S m) P kn L V Pd ln G from rfl) ?_
  refine gw_aload_n (q := 47) hc dX2_visits_46 rfl rfl xg_0 ?_
  refine gw_get (q := 50) hc dX2_visits_47 rfl cE_MO 0 (by decide) q1252 (fun _ h => h) (tg_m hα) xg_0 ?_
  refine gw_iload_n (q := 51) hc dX2_visits_50 rfl rfl xg_2 ?_
  refine gw_bipush (q := 53) hc dX2_visits_51 rfl (by decide) ?_
  refine gw_iadd (q := 54) hc dX2_visits_53 rfl ?_
  refine gw_dup2_11 (q := 55) hc dX2_visits_54 rfl rfl rfl ?_
  refine gw_lald (q := 56) hc dX2_visits_55 rfl (tg_s hα) (by omega) (by omega) ?_
  refine gw_iload_n (q := 57) hc dX2_visits_56 rfl rfl xg_3 ?_
  refine gw_i2l (q := 58) hc dX2_visits_57 rfl (by omega) ?_
  refine gw_ladd (q := 59) hc dX2_visits_58 rfl ?_
  refine gw_last (q := 60) hc dX2_visits_59 rfl (tg_s hα) (by omega) (by omega) ?_
  refine gw_G (tu_s hα) ?_
  refine gw_G (show _ = tG D α (vi3 S m) P kn L V Pd ln G from rfl) ?_
  refine gw_aload_n (q := 61) hc dX2_visits_60 rfl rfl xg_0 ?_
  refine gw_get (q := 64) hc dX2_visits_61 rfl cE_MO 0 (by decide) q1252 (fun _ h => h) (tg_m hα) xg_0 ?_
  refine gw_bipush (q := 66) hc dX2_visits_64 rfl (by decide) ?_
  refine gw_dup2_11 (q := 67) hc dX2_visits_66 rfl rfl rfl ?_
  refine gw_lald (q := 68) hc dX2_visits_67 rfl (tg_s hα) (by omega) (by omega) ?_
  refine gw_iload_n (q := 69) hc dX2_visits_68 rfl rfl xg_3 ?_
  refine gw_i2l (q := 70) hc dX2_visits_69 rfl (by omega) ?_
  refine gw_ladd (q := 71) hc dX2_visits_70 rfl ?_
  refine gw_last (q := 72) hc dX2_visits_71 rfl (tg_s hα) (by omega) (by omega) ?_
  refine gw_G (tu_s hα) ?_
  refine gw_G (show _ = tG D α (vi4 S m) P kn L V Pd ln G from rfl) ?_
  refine gw_aload_n (q := 73) hc dX2_visits_72 rfl rfl xg_0 ?_
  refine gw_get (q := 76) hc dX2_visits_73 rfl cE_MO 0 (by decide) q1252 (fun _ h => h) (tg_m hα) xg_0 ?_
  refine gw_iload_n (q := 77) hc dX2_visits_76 rfl rfl xg_2 ?_
  refine gw_iconst (q := 78) hc dX2_visits_77 rfl ?_
  refine gw_iadd (q := 79) hc dX2_visits_78 rfl ?_
  refine gw_ldc2 (q := 82) hc dX2_visits_79 rfl (v := 100) q1317 (by decide) ?_
  refine gw_last (q := 83) hc dX2_visits_82 rfl (tg_s hα) (by omega) (by omega) ?_
  refine gw_G (tu_s hα) ?_
  refine gw_G (show _ = tG D α (vi5 S m) P kn L V Pd ln G from rfl) ?_
  refine gw_aload_n (q := 84) hc dX2_visits_83 rfl rfl xg_0 ?_
  refine gw_get (q := 87) hc dX2_visits_84 rfl cE_MO 0 (by decide) q1252 (fun _ h => h) (tg_m hα) xg_0 ?_
  refine gw_iload_n (q := 88) hc dX2_visits_87 rfl rfl xg_2 ?_
  refine gw_bipush (q := 90) hc dX2_visits_88 rfl (by decide) ?_
  refine gw_iadd (q := 91) hc dX2_visits_90 rfl ?_
  refine gw_lconst (q := 92) hc dX2_visits_91 rfl (v := 0) rfl ?_
  refine gw_last (q := 93) hc dX2_visits_92 rfl (tg_s hα) (by omega) (by omega) ?_
  refine gw_G (tu_s hα) ?_
  refine gw_G (show _ = tG D α (vi6 S m) P kn L V Pd ln G from rfl) ?_
  refine gw_aload_n (q := 94) hc dX2_visits_93 rfl rfl xg_0 ?_
  refine gw_get (q := 97) hc dX2_visits_94 rfl cE_MO 0 (by decide) q1252 (fun _ h => h) (tg_m hα) xg_0 ?_
  refine gw_iload_n (q := 98) hc dX2_visits_97 rfl rfl xg_2 ?_
  refine gw_bipush (q := 100) hc dX2_visits_98 rfl (by decide) ?_
  refine gw_iadd (q := 101) hc dX2_visits_100 rfl ?_
  refine gw_dup2_11 (q := 102) hc dX2_visits_101 rfl rfl rfl ?_
  refine gw_lald (q := 103) hc dX2_visits_102 rfl (tg_s hα) (by omega) (by omega) ?_
  refine gw_lconst (q := 104) hc dX2_visits_103 rfl (v := 1) rfl ?_
  refine gw_ladd (q := 105) hc dX2_visits_104 rfl ?_
  refine gw_last (q := 106) hc dX2_visits_105 rfl (tg_s hα) (by omega) (by omega) ?_
  refine gw_G (tu_s hα) ?_
  refine gw_G (show _ = tG D α (vi7 S m) P kn L V Pd ln G from rfl) ?_
  refine gw_aload_n (q := 107) hc dX2_visits_106 rfl rfl xg_0 ?_
  refine gw_get (q := 110) hc dX2_visits_107 rfl cE_MO 0 (by decide) q1252 (fun _ h => h) (tg_m hα) xg_0 ?_
  refine gw_iload_n (q := 111) hc dX2_visits_110 rfl rfl xg_2 ?_
  refine gw_bipush (q := 113) hc dX2_visits_111 rfl (by decide) ?_
  refine gw_iadd (q := 114) hc dX2_visits_113 rfl ?_
  refine gw_lald (q := 115) hc dX2_visits_114 rfl (tg_s hα) (by omega) (by omega) ?_
  refine gw_lconst (q := 116) hc dX2_visits_115 rfl (v := 1) rfl ?_
  refine gw_lcmp (q := 117) hc dX2_visits_116 rfl (by rw [vi7_7 hm.1]; omega) (by decide) ?_
  refine gw_ifc_ne  (q := 120) (t := 157) hc dX2_visits_117 rfl (by decide)  (fun c117 => ?_) (fun c117 => ?_)
  · have hF : viF S m = vi7 S m := if_neg c117
    refine gw_iload_n (q := 158) hc dX2_visits_157 rfl rfl xg_3 ?_
    exact gw_iret hc dX2_visits_158 ⟨_, rfl, ⟨rfl, by rw [hF]⟩⟩
  · have hF : viF S m = fu (vi9 S m) (0 + 11 + 13 * m + 7) 0 := if_pos c117
    refine gw_aload_n (q := 121) hc dX2_visits_120 rfl rfl xg_0 ?_
    refine gw_get (q := 124) hc dX2_visits_121 rfl cE_MO 0 (by decide) q1252 (fun _ h => h) (tg_m hα) xg_0 ?_
    refine gw_bipush (q := 126) hc dX2_visits_124 rfl (by decide) ?_
    refine gw_dup2_11 (q := 127) hc dX2_visits_126 rfl rfl rfl ?_
    refine gw_lald (q := 128) hc dX2_visits_127 rfl (tg_s hα) (by omega) (by omega) ?_
    refine gw_lconst (q := 129) hc dX2_visits_128 rfl (v := 1) rfl ?_
    refine gw_ladd (q := 130) hc dX2_visits_129 rfl ?_
    refine gw_last (q := 131) hc dX2_visits_130 rfl (tg_s hα) (by omega) (by omega) ?_
    refine gw_G (tu_s hα) ?_
    refine gw_G (show _ = tG D α (vi8 S m) P kn L V Pd ln G from rfl) ?_
    refine gw_aload_n (q := 132) hc dX2_visits_131 rfl rfl xg_0 ?_
    refine gw_get (q := 135) hc dX2_visits_132 rfl cE_MO 0 (by decide) q1252 (fun _ h => h) (tg_m hα) xg_0 ?_
    refine gw_iload_n (q := 136) hc dX2_visits_135 rfl rfl xg_2 ?_
    refine gw_bipush (q := 138) hc dX2_visits_136 rfl (by decide) ?_
    refine gw_iadd (q := 139) hc dX2_visits_138 rfl ?_
    refine gw_aload_n (q := 140) hc dX2_visits_139 rfl rfl xg_0 ?_
    refine gw_get (q := 143) hc dX2_visits_140 rfl cE_MO 0 (by decide) q1252 (fun _ h => h) (tg_m hα) xg_0 ?_
    refine gw_bipush (q := 145) hc dX2_visits_143 rfl (by decide) ?_
    refine gw_lald (q := 146) hc dX2_visits_145 rfl (tg_s hα) (by omega) (by omega) ?_
    refine gw_last (q := 147) hc dX2_visits_146 rfl (tg_s hα) (by omega) (by omega) ?_
    refine gw_G (tu_s hα) ?_
    refine gw_G (show _ = tG D α (vi9 S m) P kn L V Pd ln G from rfl) ?_
    refine gw_aload_n (q := 148) hc dX2_visits_147 rfl rfl xg_0 ?_
    refine gw_get (q := 151) hc dX2_visits_148 rfl cE_MO 0 (by decide) q1252 (fun _ h => h) (tg_m hα) xg_0 ?_
    refine gw_iload_n (q := 152) hc dX2_visits_151 rfl rfl xg_2 ?_
    refine gw_bipush (q := 154) hc dX2_visits_152 rfl (by decide) ?_
    refine gw_iadd (q := 155) hc dX2_visits_154 rfl ?_
    refine gw_lconst (q := 156) hc dX2_visits_155 rfl (v := 0) rfl ?_
    refine gw_last (q := 157) hc dX2_visits_156 rfl (tg_s hα) (by omega) (by omega) ?_
    refine gw_G (tu_s hα) ?_
    refine gw_iload_n (q := 158) hc dX2_visits_157 rfl rfl xg_3 ?_
    exact gw_iret hc dX2_visits_158 ⟨_, rfl, ⟨rfl, by rw [hF]⟩⟩

theorem mw_X2_meter : mV "EnergyDiscsModel" yX2_meter cX2_meter 3 (some FieldType.int) 1 := ⟨⟨rfl, by decide +kernel, by decide +kernel, by decide +kernel⟩, q1298, q1299, q82, q1300⟩
set_option maxHeartbeats 4000000 in
theorem m_X2_meter {l : Launch} {D : va_G} {X : Nat → Nat} {b0 : Nat} {α : Nat → Nat} {S P L V Pd : Int → Int} {kn ln : Int} {G : gM} (hα : aN α) {t : Int} (h7 : 0 ≤ S 7 ∧ S 7 ≤ 7) (ht : rI t) (hkn : 0 ≤ kn ∧ kn ≤ 6) : gMet l D X b0 yX2_meter cX2_meter 3 (some FieldType.int) (rmE 3 0 0) [.ref (α 0), .int (iI t)] (tG D α S P kn L V Pd ln G) (eC D α S P kn L V Pd ln G (wnM S t) (coF S t) (S 7)) := by
  refine gm_start (own := "EnergyDiscsModel") (lv := [some (.ref (α 0)), some (.int (iI t)), none]) (by decide +kernel) rfl (Nat.le_of_ble_eq_true rfl) rfl (fun p_ e_ s_ m_ args_ below_ meth_ c_ hc hnm => ?_)
  have hwr : (wnM S t = -1 ∨ wnM S t = -4 ∨ wnM S t = 0) ∧ (wnM S t = 0 → S 7 < 7) := by unfold wnM; (repeat' split) <;> omega
  refine gw_aload_n (q := 1) hc dX2_meter_0 rfl rfl xg_0 ?_
  refine gw_iload_n (q := 2) hc dX2_meter_1 rfl rfl xg_1 ?_
  refine gw_callV (q := 5) (bc' := 0) (bs' := 0) (As := [_]) hc dX2_meter_2 rfl q1301 mw_X2_whyNotMeter (rc_o hc cE_MO (tg_m hα)) rfl rfl (m_X2_whyNotMeter hα h7 ht) ⟨Nat.le_of_ble_eq_true rfl, Nat.le_of_ble_eq_true rfl⟩ (Nat.le_of_ble_eq_true rfl) (Nat.le_of_ble_eq_true rfl) (Nat.le_of_ble_eq_true rfl) (goI fun r2 G2 h2 => ?_)
  obtain ⟨rfl, rfl⟩ := h2
  refine gw_istore_n (q := 6) hc dX2_meter_5 rfl rfl xs_2 (by decide) (n2p xg_1 rfl) ?_
  refine gw_iload_n (q := 7) hc dX2_meter_6 rfl rfl xg_2 ?_
  refine gw_if_ge  (q := 10) (t := 12) hc dX2_meter_7 rfl (by decide) (by omega) (fun c7 => ?_) (fun c7 => ?_)
  · skip
    refine gw_aload_n (q := 13) hc dX2_meter_12 rfl rfl xg_0 ?_
    refine gw_callV (q := 16) (bc' := 0) (bs' := 0) (As := []) hc dX2_meter_13 rfl q1289 mw_X2_remembers (rc_o hc cE_MO (tg_m hα)) rfl rfl (m_X2_remembers hα hkn) ⟨Nat.le_of_ble_eq_true rfl, Nat.le_of_ble_eq_true rfl⟩ (Nat.le_of_ble_eq_true rfl) (Nat.le_of_ble_eq_true rfl) (Nat.le_of_ble_eq_true rfl) (goV fun G13 h13 => ?_)
    obtain ⟨P1, kn1, rfl, hrem⟩ := h13
    refine gw_aload_n (q := 17) hc dX2_meter_16 rfl rfl xg_0 ?_
    refine gw_iload_n (q := 18) hc dX2_meter_17 rfl rfl xg_1 ?_
    refine gw_callV (q := 21) (bc' := 0) (bs' := 0) (As := [_]) hc dX2_meter_18 rfl q1309 mw_X2_comes (rc_o hc cE_MO (tg_m hα)) rfl rfl (m_X2_comes hα (by omega) ht) ⟨Nat.le_of_ble_eq_true rfl, Nat.le_of_ble_eq_true rfl⟩ (Nat.le_of_ble_eq_true rfl) (Nat.le_of_ble_eq_true rfl) (Nat.le_of_ble_eq_true rfl) (goI fun r18 G18 h18 => ?_)
    obtain ⟨rfl, rfl⟩ := h18
    exact gw_iret hc dX2_meter_21 ⟨_, rfl, Or.inr ⟨by omega, by first | rfl | omega, P1, kn1, hrem, rfl⟩⟩
  · skip
    refine gw_iload_n (q := 11) hc dX2_meter_10 rfl rfl xg_2 ?_
    exact gw_iret hc dX2_meter_11 ⟨_, rfl, Or.inl ⟨by omega, rfl, rfl⟩⟩

theorem mw_X2_load : mV "EnergyDiscsModel" yX2_load cX2_load 4 (some FieldType.int) 2 := ⟨⟨rfl, by decide +kernel, by decide +kernel, by decide +kernel⟩, q1319, q1320, q82, q1321⟩
set_option maxHeartbeats 4000000 in
theorem m_X2_load {l : Launch} {D : va_G} {X : Nat → Nat} {b0 : Nat} {α : Nat → Nat} {S P L V Pd : Int → Int} {kn ln : Int} {G : gM} (hα : aN α) {m : Int} {w : Int} (h7 : 0 ≤ S 7 ∧ S 7 ≤ 7) (h8 : 0 ≤ S 8 ∧ S 8 ≤ 12) (hm : rI m) (hw : rI w) (hkn : 0 ≤ kn ∧ kn ≤ 6) : gMet l D X b0 yX2_load cX2_load 4 (some FieldType.int) (rmE 3 0 0) [.ref (α 0), .int (iI m), .int (iI w)] (tG D α S P kn L V Pd ln G) (eC D α S P kn L V Pd ln G (wnL S m w) (loF S m w) (S 8)) := by
  refine gm_start (own := "EnergyDiscsModel") (lv := [some (.ref (α 0)), some (.int (iI m)), some (.int (iI w)), none]) (by decide +kernel) rfl (Nat.le_of_ble_eq_true rfl) rfl (fun p_ e_ s_ m_ args_ below_ meth_ c_ hc hnm => ?_)
  have hwr : (wnL S m w = -1 ∨ wnL S m w = -2 ∨ wnL S m w = -4 ∨ wnL S m w = 0) ∧ (wnL S m w = 0 → S 8 < 12) := by unfold wnL; (repeat' split) <;> omega
  refine gw_aload_n (q := 1) hc dX2_load_0 rfl rfl xg_0 ?_
  refine gw_iload_n (q := 2) hc dX2_load_1 rfl rfl xg_1 ?_
  refine gw_iload_n (q := 3) hc dX2_load_2 rfl rfl xg_2 ?_
  refine gw_callV (q := 6) (bc' := 0) (bs' := 0) (As := [_, _]) hc dX2_load_3 rfl q1322 mw_X2_whyNotLoad (rc_o hc cE_MO (tg_m hα)) rfl rfl (m_X2_whyNotLoad hα h7 h8 hm hw) ⟨Nat.le_of_ble_eq_true rfl, Nat.le_of_ble_eq_true rfl⟩ (Nat.le_of_ble_eq_true rfl) (Nat.le_of_ble_eq_true rfl) (Nat.le_of_ble_eq_true rfl) (goI fun r3 G3 h3 => ?_)
  obtain ⟨rfl, rfl⟩ := h3
  refine gw_istore_n (q := 7) hc dX2_load_6 rfl rfl xs_3 (by decide) (n2p xg_2 rfl) ?_
  refine gw_iload_n (q := 8) hc dX2_load_7 rfl rfl xg_3 ?_
  refine gw_if_ge  (q := 11) (t := 13) hc dX2_load_8 rfl (by decide) (by omega) (fun c8 => ?_) (fun c8 => ?_)
  · skip
    refine gw_aload_n (q := 14) hc dX2_load_13 rfl rfl xg_0 ?_
    refine gw_callV (q := 17) (bc' := 0) (bs' := 0) (As := []) hc dX2_load_14 rfl q1289 mw_X2_remembers (rc_o hc cE_MO (tg_m hα)) rfl rfl (m_X2_remembers hα hkn) ⟨Nat.le_of_ble_eq_true rfl, Nat.le_of_ble_eq_true rfl⟩ (Nat.le_of_ble_eq_true rfl) (Nat.le_of_ble_eq_true rfl) (Nat.le_of_ble_eq_true rfl) (goV fun G14 h14 => ?_)
    obtain ⟨P1, kn1, rfl, hrem⟩ := h14
    refine gw_aload_n (q := 18) hc dX2_load_17 rfl rfl xg_0 ?_
    refine gw_iload_n (q := 19) hc dX2_load_18 rfl rfl xg_1 ?_
    refine gw_iload_n (q := 20) hc dX2_load_19 rfl rfl xg_2 ?_
    refine gw_callV (q := 23) (bc' := 0) (bs' := 0) (As := [_, _]) hc dX2_load_20 rfl q1326 mw_X2_loads (rc_o hc cE_MO (tg_m hα)) rfl rfl (m_X2_loads hα (by omega) hm hw) ⟨Nat.le_of_ble_eq_true rfl, Nat.le_of_ble_eq_true rfl⟩ (Nat.le_of_ble_eq_true rfl) (Nat.le_of_ble_eq_true rfl) (Nat.le_of_ble_eq_true rfl) (goI fun r20 G20 h20 => ?_)
    obtain ⟨rfl, rfl⟩ := h20
    exact gw_iret hc dX2_load_23 ⟨_, rfl, Or.inr ⟨by omega, by first | rfl | omega, P1, kn1, hrem, rfl⟩⟩
  · skip
    refine gw_iload_n (q := 12) hc dX2_load_11 rfl rfl xg_3 ?_
    exact gw_iret hc dX2_load_12 ⟨_, rfl, Or.inl ⟨by omega, rfl, rfl⟩⟩

theorem mw_X2_turn : mV "EnergyDiscsModel" yX2_turn cX2_turn 2 (some FieldType.int) 1 := ⟨⟨rfl, by decide +kernel, by decide +kernel, by decide +kernel⟩, q1331, q1332, q82, q1333⟩
set_option maxHeartbeats 4000000 in
theorem m_X2_turn {l : Launch} {D : va_G} {X : Nat → Nat} {b0 : Nat} {α : Nat → Nat} {S P L V Pd : Int → Int} {kn ln : Int} {G : gM} (hα : aN α) {j : Int} (h8 : 0 ≤ S 8 ∧ S 8 ≤ 12) (hj : rI j) (hkn : 0 ≤ kn ∧ kn ≤ 6) : gMet l D X b0 yX2_turn cX2_turn 2 (some FieldType.int) (rmE 2 0 0) [.ref (α 0), .int (iI j)] (tG D α S P kn L V Pd ln G) (eC D α S P kn L V Pd ln G (wnO S j) (tuF S j) (1 - S (102 + 3 * j + 2))) := by
  refine gm_start (own := "EnergyDiscsModel") (lv := [some (.ref (α 0)), some (.int (iI j))]) (by decide +kernel) rfl (Nat.le_of_ble_eq_true rfl) rfl (fun p_ e_ s_ m_ args_ below_ meth_ c_ hc hnm => ?_)
  refine gw_aload_n (q := 1) hc dX2_turn_0 rfl rfl xg_0 ?_
  refine gw_iload_n (q := 2) hc dX2_turn_1 rfl rfl xg_1 ?_
  refine gw_callV (q := 5) (bc' := 0) (bs' := 0) (As := [_]) hc dX2_turn_2 rfl q1334 mw_X2_isLoad (rc_o hc cE_MO (tg_m hα)) rfl rfl (m_X2_isLoad hα (by omega) (by omega)) ⟨Nat.le_of_ble_eq_true rfl, Nat.le_of_ble_eq_true rfl⟩ (Nat.le_of_ble_eq_true rfl) (Nat.le_of_ble_eq_true rfl) (Nat.le_of_ble_eq_true rfl) (goI fun r2 G2 h2 => ?_)
  obtain ⟨b2, rfl⟩ := h2
  refine gw_if_ne  (q := 8) (t := 10) hc dX2_turn_5 rfl (by decide) (by omega) (fun c5 => ?_) (fun c5 => ?_)
  · skip
    refine gw_aload_n (q := 11) hc dX2_turn_10 rfl rfl xg_0 ?_
    refine gw_callV (q := 14) (bc' := 0) (bs' := 0) (As := []) hc dX2_turn_11 rfl q1289 mw_X2_remembers (rc_o hc cE_MO (tg_m hα)) rfl rfl (m_X2_remembers hα hkn) ⟨Nat.le_of_ble_eq_true rfl, Nat.le_of_ble_eq_true rfl⟩ (Nat.le_of_ble_eq_true rfl) (Nat.le_of_ble_eq_true rfl) (Nat.le_of_ble_eq_true rfl) (goV fun G11 h11 => ?_)
    obtain ⟨P1, kn1, rfl, hrem⟩ := h11
    refine gw_aload_n (q := 15) hc dX2_turn_14 rfl rfl xg_0 ?_
    refine gw_iload_n (q := 16) hc dX2_turn_15 rfl rfl xg_1 ?_
    refine gw_callV (q := 19) (bc' := 0) (bs' := 0) (As := [_]) hc dX2_turn_16 rfl q1338 mw_X2_turns (rc_o hc cE_MO (tg_m hα)) rfl rfl (m_X2_turns hα (by omega)) ⟨Nat.le_of_ble_eq_true rfl, Nat.le_of_ble_eq_true rfl⟩ (Nat.le_of_ble_eq_true rfl) (Nat.le_of_ble_eq_true rfl) (Nat.le_of_ble_eq_true rfl) (goI fun r16 G16 h16 => ?_)
    obtain ⟨rfl, rfl⟩ := h16
    exact gw_iret hc dX2_turn_19 ⟨_, rfl, Or.inr ⟨by unfold wnO; split <;> omega, rfl, P1, kn1, hrem, rfl⟩⟩
  · skip
    refine gw_iconst (q := 9) hc dX2_turn_8 rfl ?_
    exact gw_iret hc dX2_turn_9 ⟨_, rfl, Or.inl ⟨by unfold wnO; split <;> omega, by unfold wnO; split <;> omega, rfl⟩⟩

theorem mw_X2_tamper : mV "EnergyDiscsModel" yX2_tamper cX2_tamper 3 (some FieldType.int) 1 := ⟨⟨rfl, by decide +kernel, by decide +kernel, by decide +kernel⟩, q1343, q1344, q82, q1345⟩
set_option maxHeartbeats 4000000 in
theorem m_X2_tamper {l : Launch} {D : va_G} {X : Nat → Nat} {b0 : Nat} {α : Nat → Nat} {S P L V Pd : Int → Int} {kn ln : Int} {G : gM} (hα : aN α) {m : Int} (h7 : 0 ≤ S 7 ∧ S 7 ≤ 7) (hm : rI m) (hb : ∀ k, 0 ≤ k → k < S 7 → S (11 + 13 * k + 7) = 0 ∨ S (11 + 13 * k + 7) = 1) (hkn : 0 ≤ kn ∧ kn ≤ 6) : gMet l D X b0 yX2_tamper cX2_tamper 3 (some FieldType.int) (rmE 3 0 0) [.ref (α 0), .int (iI m)] (tG D α S P kn L V Pd ln G) (eC D α S P kn L V Pd ln G (wnT S m) (taF S m) (S (11 + 13 * m + 6))) := by
  refine gm_start (own := "EnergyDiscsModel") (lv := [some (.ref (α 0)), some (.int (iI m)), none]) (by decide +kernel) rfl (Nat.le_of_ble_eq_true rfl) rfl (fun p_ e_ s_ m_ args_ below_ meth_ c_ hc hnm => ?_)
  have hwr : (wnT S m = -1 ∨ wnT S m = -5 ∨ wnT S m = 0) ∧ (wnT S m = 0 → 0 ≤ m ∧ m < S 7) := by unfold wnT; (repeat' split) <;> omega
  refine gw_aload_n (q := 1) hc dX2_tamper_0 rfl rfl xg_0 ?_
  refine gw_iload_n (q := 2) hc dX2_tamper_1 rfl rfl xg_1 ?_
  refine gw_callV (q := 5) (bc' := 0) (bs' := 0) (As := [_]) hc dX2_tamper_2 rfl q1346 mw_X2_whyNotTamper (rc_o hc cE_MO (tg_m hα)) rfl rfl (m_X2_whyNotTamper hα h7 hm hb) ⟨Nat.le_of_ble_eq_true rfl, Nat.le_of_ble_eq_true rfl⟩ (Nat.le_of_ble_eq_true rfl) (Nat.le_of_ble_eq_true rfl) (Nat.le_of_ble_eq_true rfl) (goI fun r2 G2 h2 => ?_)
  obtain ⟨rfl, rfl⟩ := h2
  refine gw_istore_n (q := 6) hc dX2_tamper_5 rfl rfl xs_2 (by decide) (n2p xg_1 rfl) ?_
  refine gw_iload_n (q := 7) hc dX2_tamper_6 rfl rfl xg_2 ?_
  refine gw_if_ge  (q := 10) (t := 12) hc dX2_tamper_7 rfl (by decide) (by omega) (fun c7 => ?_) (fun c7 => ?_)
  · skip
    refine gw_aload_n (q := 13) hc dX2_tamper_12 rfl rfl xg_0 ?_
    refine gw_callV (q := 16) (bc' := 0) (bs' := 0) (As := []) hc dX2_tamper_13 rfl q1289 mw_X2_remembers (rc_o hc cE_MO (tg_m hα)) rfl rfl (m_X2_remembers hα hkn) ⟨Nat.le_of_ble_eq_true rfl, Nat.le_of_ble_eq_true rfl⟩ (Nat.le_of_ble_eq_true rfl) (Nat.le_of_ble_eq_true rfl) (Nat.le_of_ble_eq_true rfl) (goV fun G13 h13 => ?_)
    obtain ⟨P1, kn1, rfl, hrem⟩ := h13
    refine gw_aload_n (q := 17) hc dX2_tamper_16 rfl rfl xg_0 ?_
    refine gw_get (q := 20) hc dX2_tamper_17 rfl cE_MO 0 (by decide) q1252 (fun _ h => h) (tg_m hα) xg_0 ?_
    refine gw_iconst (q := 21) hc dX2_tamper_20 rfl ?_
    refine gw_iload_n (q := 22) hc dX2_tamper_21 rfl rfl xg_1 ?_
    refine gw_callS (q := 25) (bc' := 0) (bs' := 0) (As := [_, _]) hc dX2_tamper_22 rfl q1313 mw_X2_at rfl rfl (m_X2_at) ⟨Nat.le_of_ble_eq_true rfl, Nat.le_of_ble_eq_true rfl⟩ (Nat.le_of_ble_eq_true rfl) (Nat.le_of_ble_eq_true rfl) (Nat.le_of_ble_eq_true rfl) (goI fun r22 G22 h22 => ?_)
    obtain ⟨rfl, rfl⟩ := h22
    refine gw_bipush (q := 27) hc dX2_tamper_25 rfl (by decide) ?_
    refine gw_iadd (q := 28) hc dX2_tamper_27 rfl ?_
    refine gw_lconst (q := 29) hc dX2_tamper_28 rfl (v := 1) rfl ?_
    refine gw_last (q := 30) hc dX2_tamper_29 rfl (tg_s hα) (by omega) (by omega) ?_
    refine gw_G (tu_s hα) ?_
    refine gw_G (show _ = tG D α (taF S m) P1 kn1 L V Pd ln G from rfl) ?_
    refine gw_aload_n (q := 31) hc dX2_tamper_30 rfl rfl xg_0 ?_
    refine gw_iload_n (q := 32) hc dX2_tamper_31 rfl rfl xg_1 ?_
    refine gw_bipush (q := 34) hc dX2_tamper_32 rfl (by decide) ?_
    refine gw_callV (q := 37) (bc' := 0) (bs' := 0) (As := [_, _]) hc dX2_tamper_34 rfl q1350 mw_X2_its (rc_o hc cE_MO (tg_m hα)) rfl rfl (m_X2_its hα (by omega)) ⟨Nat.le_of_ble_eq_true rfl, Nat.le_of_ble_eq_true rfl⟩ (Nat.le_of_ble_eq_true rfl) (Nat.le_of_ble_eq_true rfl) (Nat.le_of_ble_eq_true rfl) (goI fun r34 G34 h34 => ?_)
    obtain ⟨rfl, rfl⟩ := h34
    exact gw_iret hc dX2_tamper_37 ⟨_, rfl, Or.inr ⟨by omega, by rw [taF, fu_n (by omega)], P1, kn1, hrem, rfl⟩⟩
  · skip
    refine gw_iload_n (q := 11) hc dX2_tamper_10 rfl rfl xg_2 ?_
    exact gw_iret hc dX2_tamper_11 ⟨_, rfl, Or.inl ⟨by omega, rfl, rfl⟩⟩

theorem mw_X2_visit : mV "EnergyDiscsModel" yX2_visit cX2_visit 2 (some FieldType.int) 1 := ⟨⟨rfl, by decide +kernel, by decide +kernel, by decide +kernel⟩, q1355, q1356, q82, q1357⟩
set_option maxHeartbeats 4000000 in
theorem m_X2_visit {l : Launch} {D : va_G} {X : Nat → Nat} {b0 : Nat} {α : Nat → Nat} {S P L V Pd : Int → Int} {kn ln : Int} {G : gM} (hα : aN α) {m : Int} (h7 : 0 ≤ S 7 ∧ S 7 ≤ 7) (hm : rI m) (hb : ∀ k, 0 ≤ k → k < S 7 → rI (biF S k) ∧ (S (0 + 11 + 13 * k + 7) = 0 ∨ S (0 + 11 + 13 * k + 7) = 1)) (hkn : 0 ≤ kn ∧ kn ≤ 6) : gMet l D X b0 yX2_visit cX2_visit 2 (some FieldType.int) (rmE 3 0 0) [.ref (α 0), .int (iI m)] (tG D α S P kn L V Pd ln G) (eC D α S P kn L V Pd ln G (wnI S m) (viF S m) (biF S m)) := by
  refine gm_start (own := "EnergyDiscsModel") (lv := [some (.ref (α 0)), some (.int (iI m))]) (by decide +kernel) rfl (Nat.le_of_ble_eq_true rfl) rfl (fun p_ e_ s_ m_ args_ below_ meth_ c_ hc hnm => ?_)
  refine gw_aload_n (q := 1) hc dX2_visit_0 rfl rfl xg_0 ?_
  refine gw_iload_n (q := 2) hc dX2_visit_1 rfl rfl xg_1 ?_
  refine gw_callV (q := 5) (bc' := 0) (bs' := 0) (As := [_]) hc dX2_visit_2 rfl q1305 mw_X2_isMeter (rc_o hc cE_MO (tg_m hα)) rfl rfl (m_X2_isMeter hα (by omega) (by omega)) ⟨Nat.le_of_ble_eq_true rfl, Nat.le_of_ble_eq_true rfl⟩ (Nat.le_of_ble_eq_true rfl) (Nat.le_of_ble_eq_true rfl) (Nat.le_of_ble_eq_true rfl) (goI fun r2 G2 h2 => ?_)
  obtain ⟨b2, rfl⟩ := h2
  refine gw_if_ne  (q := 8) (t := 10) hc dX2_visit_5 rfl (by decide) (by omega) (fun c5 => ?_) (fun c5 => ?_)
  · skip
    refine gw_aload_n (q := 11) hc dX2_visit_10 rfl rfl xg_0 ?_
    refine gw_callV (q := 14) (bc' := 0) (bs' := 0) (As := []) hc dX2_visit_11 rfl q1289 mw_X2_remembers (rc_o hc cE_MO (tg_m hα)) rfl rfl (m_X2_remembers hα hkn) ⟨Nat.le_of_ble_eq_true rfl, Nat.le_of_ble_eq_true rfl⟩ (Nat.le_of_ble_eq_true rfl) (Nat.le_of_ble_eq_true rfl) (Nat.le_of_ble_eq_true rfl) (goV fun G11 h11 => ?_)
    obtain ⟨P1, kn1, rfl, hrem⟩ := h11
    refine gw_aload_n (q := 15) hc dX2_visit_14 rfl rfl xg_0 ?_
    refine gw_iload_n (q := 16) hc dX2_visit_15 rfl rfl xg_1 ?_
    refine gw_callV (q := 19) (bc' := 0) (bs' := 0) (As := [_]) hc dX2_visit_16 rfl q1358 mw_X2_visits (rc_o hc cE_MO (tg_m hα)) rfl rfl (m_X2_visits hα (by omega) (hb m (by omega) (by omega)).1 (hb m (by omega) (by omega)).2) ⟨Nat.le_of_ble_eq_true rfl, Nat.le_of_ble_eq_true rfl⟩ (Nat.le_of_ble_eq_true rfl) (Nat.le_of_ble_eq_true rfl) (Nat.le_of_ble_eq_true rfl) (goI fun r16 G16 h16 => ?_)
    obtain ⟨rfl, rfl⟩ := h16
    exact gw_iret hc dX2_visit_19 ⟨_, rfl, Or.inr ⟨by unfold wnI; split <;> omega, rfl, P1, kn1, hrem, rfl⟩⟩
  · skip
    refine gw_iconst (q := 9) hc dX2_visit_8 rfl ?_
    exact gw_iret hc dX2_visit_9 ⟨_, rfl, Or.inl ⟨by unfold wnI; split <;> omega, by unfold wnI; split <;> omega, rfl⟩⟩

theorem mw_X2_pass : mV "EnergyDiscsModel" yX2_pass cX2_pass 3 (some FieldType.int) 1 := ⟨⟨rfl, by decide +kernel, by decide +kernel, by decide +kernel⟩, q1367, q1368, q82, q1369⟩
set_option maxHeartbeats 4000000 in
theorem m_X2_pass {l : Launch} {D : va_G} {X : Nat → Nat} {b0 : Nat} {α : Nat → Nat} {S P L V Pd : Int → Int} {kn ln : Int} {G : gM} (hα : aN α) {t : Int} (ht : rI t) (hW : pasW S (S 6)) (h6 : 0 ≤ S 6 ∧ S 6 ≤ 99999) (hkn : 0 ≤ kn ∧ kn ≤ 6) : gMet l D X b0 yX2_pass cX2_pass 3 (some FieldType.int) (rmE 6 0 0) [.ref (α 0), .int (iI t)] (tG D α S P kn L V Pd ln G) (eC D α S P kn L V Pd ln G (wnP S t) (paF S t.toNat) (paT S t.toNat)) := by
  refine gm_start (own := "EnergyDiscsModel") (lv := [some (.ref (α 0)), some (.int (iI t)), none]) (by decide +kernel) rfl (Nat.le_of_ble_eq_true rfl) rfl (fun p_ e_ s_ m_ args_ below_ meth_ c_ hc hnm => ?_)
  have hwr : (wnP S t = -2 ∨ wnP S t = -5 ∨ wnP S t = 0) ∧ (wnP S t = 0 → 1 ≤ t ∧ t ≤ 1440) := by unfold wnP; (repeat' split) <;> omega
  refine gw_aload_n (q := 1) hc dX2_pass_0 rfl rfl xg_0 ?_
  refine gw_iload_n (q := 2) hc dX2_pass_1 rfl rfl xg_1 ?_
  refine gw_callV (q := 5) (bc' := 0) (bs' := 0) (As := [_]) hc dX2_pass_2 rfl q1370 mw_X2_whyNotPass (rc_o hc cE_MO (tg_m hα)) rfl rfl (m_X2_whyNotPass hα ht h6) ⟨Nat.le_of_ble_eq_true rfl, Nat.le_of_ble_eq_true rfl⟩ (Nat.le_of_ble_eq_true rfl) (Nat.le_of_ble_eq_true rfl) (Nat.le_of_ble_eq_true rfl) (goI fun r2 G2 h2 => ?_)
  obtain ⟨rfl, rfl⟩ := h2
  refine gw_istore_n (q := 6) hc dX2_pass_5 rfl rfl xs_2 (by decide) (n2p xg_1 rfl) ?_
  refine gw_iload_n (q := 7) hc dX2_pass_6 rfl rfl xg_2 ?_
  refine gw_if_ge  (q := 10) (t := 12) hc dX2_pass_7 rfl (by decide) (by omega) (fun c7 => ?_) (fun c7 => ?_)
  · skip
    refine gw_aload_n (q := 13) hc dX2_pass_12 rfl rfl xg_0 ?_
    refine gw_callV (q := 16) (bc' := 0) (bs' := 0) (As := []) hc dX2_pass_13 rfl q1289 mw_X2_remembers (rc_o hc cE_MO (tg_m hα)) rfl rfl (m_X2_remembers hα hkn) ⟨Nat.le_of_ble_eq_true rfl, Nat.le_of_ble_eq_true rfl⟩ (Nat.le_of_ble_eq_true rfl) (Nat.le_of_ble_eq_true rfl) (Nat.le_of_ble_eq_true rfl) (goV fun G13 h13 => ?_)
    obtain ⟨P1, kn1, rfl, hrem⟩ := h13
    refine gw_aload_n (q := 17) hc dX2_pass_16 rfl rfl xg_0 ?_
    refine gw_iconst (q := 18) hc dX2_pass_17 rfl ?_
    refine gw_iload_n (q := 19) hc dX2_pass_18 rfl rfl xg_1 ?_
    refine gw_callV (q := 22) (bc' := 0) (bs' := 0) (As := [_, _]) hc dX2_pass_19 rfl q1375 mw_X2_passes (rc_o hc cE_MO (tg_m hα)) rfl rfl (m_X2_passes hα hW (by omega) (by omega)) ⟨Nat.le_of_ble_eq_true rfl, Nat.le_of_ble_eq_true rfl⟩ (Nat.le_of_ble_eq_true rfl) (Nat.le_of_ble_eq_true rfl) (Nat.le_of_ble_eq_true rfl) (goI fun r19 G19 h19 => ?_)
    obtain ⟨rfl, rfl⟩ := h19
    exact gw_iret hc dX2_pass_22 ⟨_, rfl, Or.inr ⟨by omega, by first | rfl | omega, P1, kn1, hrem, rfl⟩⟩
  · skip
    refine gw_iload_n (q := 11) hc dX2_pass_10 rfl rfl xg_2 ?_
    exact gw_iret hc dX2_pass_11 ⟨_, rfl, Or.inl ⟨by omega, rfl, rfl⟩⟩

theorem mw_X2_set : mV "EnergyDiscsModel" yX2_set cX2_set 4 (some FieldType.int) 2 := ⟨⟨rfl, by decide +kernel, by decide +kernel, by decide +kernel⟩, q1277, q1278, q82, q1279⟩
set_option maxHeartbeats 4000000 in
theorem m_X2_set {l : Launch} {D : va_G} {X : Nat → Nat} {b0 : Nat} {α : Nat → Nat} {S P L V Pd : Int → Int} {kn ln : Int} {G : gM} (hα : aN α) {i : Int} {v : Int} (hi : rI i) (hv : rI v) (hkn : 0 ≤ kn ∧ kn ≤ 6) : gMet l D X b0 yX2_set cX2_set 4 (some FieldType.int) (rmE 1 0 0) [.ref (α 0), .int (iI i), .int (iI v)] (tG D α S P kn L V Pd ln G) (eC D α S P kn L V Pd ln G (wnS i v) (fu S i v) (S i)) := by
  refine gm_start (own := "EnergyDiscsModel") (lv := [some (.ref (α 0)), some (.int (iI i)), some (.int (iI v)), none]) (by decide +kernel) rfl (Nat.le_of_ble_eq_true rfl) rfl (fun p_ e_ s_ m_ args_ below_ meth_ c_ hc hnm => ?_)
  have hlh : (0 ≤ lowF i ∧ lowF i ≤ 100) ∧ (0 ≤ highF i ∧ highF i ≤ 5000) := by unfold lowF highF; (repeat' split) <;> omega
  refine gw_iload_n (q := 1) hc dX2_set_0 rfl rfl xg_1 ?_
  refine gw_iconst (q := 2) hc dX2_set_1 rfl ?_
  refine gw_iconst (q := 3) hc dX2_set_2 rfl ?_
  refine gw_callS (q := 6) (bc' := 0) (bs' := 0) (As := [_, _, _]) hc dX2_set_3 rfl q1280 mw_X2_in rfl rfl (m_X2_in (by omega) (by omega) (by omega)) ⟨Nat.le_of_ble_eq_true rfl, Nat.le_of_ble_eq_true rfl⟩ (Nat.le_of_ble_eq_true rfl) (Nat.le_of_ble_eq_true rfl) (Nat.le_of_ble_eq_true rfl) (goI fun r3 G3 h3 => ?_)
  obtain ⟨b3, rfl⟩ := h3
  refine gw_if_eq  (q := 9) (t := 24) hc dX2_set_6 rfl (by decide) (by omega) (fun c6 => ?_) (fun c6 => ?_)
  · skip
    refine gw_bipush (q := 26) hc dX2_set_24 rfl (by decide) ?_
    exact gw_iret hc dX2_set_26 ⟨_, rfl, Or.inl ⟨by unfold wnS; split <;> omega, by unfold wnS; split <;> omega, rfl⟩⟩
  · skip
    refine gw_iload_n (q := 10) hc dX2_set_9 rfl rfl xg_2 ?_
    refine gw_iload_n (q := 11) hc dX2_set_10 rfl rfl xg_1 ?_
    refine gw_callS (q := 14) (bc' := 0) (bs' := 0) (As := [_]) hc dX2_set_11 rfl q1283 mw_X2_lowOf rfl rfl (m_X2_lowOf hi) ⟨Nat.le_of_ble_eq_true rfl, Nat.le_of_ble_eq_true rfl⟩ (Nat.le_of_ble_eq_true rfl) (Nat.le_of_ble_eq_true rfl) (Nat.le_of_ble_eq_true rfl) (goI fun r11 G11 h11 => ?_)
    obtain ⟨rfl, rfl⟩ := h11
    refine gw_iload_n (q := 15) hc dX2_set_14 rfl rfl xg_1 ?_
    refine gw_callS (q := 18) (bc' := 0) (bs' := 0) (As := [_]) hc dX2_set_15 rfl q1286 mw_X2_highOf rfl rfl (m_X2_highOf hi) ⟨Nat.le_of_ble_eq_true rfl, Nat.le_of_ble_eq_true rfl⟩ (Nat.le_of_ble_eq_true rfl) (Nat.le_of_ble_eq_true rfl) (Nat.le_of_ble_eq_true rfl) (goI fun r15 G15 h15 => ?_)
    obtain ⟨rfl, rfl⟩ := h15
    refine gw_callS (q := 21) (bc' := 0) (bs' := 0) (As := [_, _, _]) hc dX2_set_18 rfl q1280 mw_X2_in rfl rfl (m_X2_in (by omega) (by omega) (by omega)) ⟨Nat.le_of_ble_eq_true rfl, Nat.le_of_ble_eq_true rfl⟩ (Nat.le_of_ble_eq_true rfl) (Nat.le_of_ble_eq_true rfl) (Nat.le_of_ble_eq_true rfl) (goI fun r18 G18 h18 => ?_)
    obtain ⟨b18, rfl⟩ := h18
    refine gw_if_ne  (q := 24) (t := 27) hc dX2_set_21 rfl (by decide) (by omega) (fun c21 => ?_) (fun c21 => ?_)
    · skip
      refine gw_aload_n (q := 28) hc dX2_set_27 rfl rfl xg_0 ?_
      refine gw_callV (q := 31) (bc' := 0) (bs' := 0) (As := []) hc dX2_set_28 rfl q1289 mw_X2_remembers (rc_o hc cE_MO (tg_m hα)) rfl rfl (m_X2_remembers hα hkn) ⟨Nat.le_of_ble_eq_true rfl, Nat.le_of_ble_eq_true rfl⟩ (Nat.le_of_ble_eq_true rfl) (Nat.le_of_ble_eq_true rfl) (Nat.le_of_ble_eq_true rfl) (goV fun G28 h28 => ?_)
      obtain ⟨P1, kn1, rfl, hrem⟩ := h28
      refine gw_aload_n (q := 32) hc dX2_set_31 rfl rfl xg_0 ?_
      refine gw_iload_n (q := 33) hc dX2_set_32 rfl rfl xg_1 ?_
      refine gw_callV (q := 36) (bc' := 0) (bs' := 0) (As := [_]) hc dX2_set_33 rfl q1293 mw_X2_num (rc_o hc cE_MO (tg_m hα)) rfl rfl (m_X2_num hα (by omega)) ⟨Nat.le_of_ble_eq_true rfl, Nat.le_of_ble_eq_true rfl⟩ (Nat.le_of_ble_eq_true rfl) (Nat.le_of_ble_eq_true rfl) (Nat.le_of_ble_eq_true rfl) (goI fun r33 G33 h33 => ?_)
      obtain ⟨rfl, rfl⟩ := h33
      refine gw_istore_n (q := 37) hc dX2_set_36 rfl rfl xs_3 (by decide) (n2p xg_2 rfl) ?_
      refine gw_aload_n (q := 38) hc dX2_set_37 rfl rfl xg_0 ?_
      refine gw_get (q := 41) hc dX2_set_38 rfl cE_MO 0 (by decide) q1252 (fun _ h => h) (tg_m hα) xg_0 ?_
      refine gw_iload_n (q := 42) hc dX2_set_41 rfl rfl xg_1 ?_
      refine gw_iload_n (q := 43) hc dX2_set_42 rfl rfl xg_2 ?_
      refine gw_i2l (q := 44) hc dX2_set_43 rfl (by omega) ?_
      refine gw_last (q := 45) hc dX2_set_44 rfl (tg_s hα) (by omega) (by omega) ?_
      refine gw_G (tu_s hα) ?_
      refine gw_iload_n (q := 46) hc dX2_set_45 rfl rfl xg_3 ?_
      exact gw_iret hc dX2_set_46 ⟨_, rfl, Or.inr ⟨by unfold wnS; split <;> omega, rfl, P1, kn1, hrem, rfl⟩⟩
    · skip
      refine gw_bipush (q := 26) hc dX2_set_24 rfl (by decide) ?_
      exact gw_iret hc dX2_set_26 ⟨_, rfl, Or.inl ⟨by unfold wnS; split <;> omega, by unfold wnS; split <;> omega, rfl⟩⟩

