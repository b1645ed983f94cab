/-! ===== the twin: what it answers ===== -/
set_option maxRecDepth 100000
/-- all that is known of a house's row; no seal is above N -/
def rowW (S : Int → Int) (N : Int) : Prop := pasW S (S (0 + 6)) ∧ S 6 ≤ 99999 ∧ (0 < S 7 → S 11 = -1) ∧ (0 ≤ S 10 ∧ S 10 ≤ N) ∧ ∀ m, 0 ≤ m → m < S 7 → 0 ≤ S (11 + 13 * m + 6) ∧ S (11 + 13 * m + 6) ≤ N
section RW
variable {S : Int → Int} {N : Int}
theorem rw_7 (h : rowW S N) : 0 ≤ S 7 ∧ S 7 ≤ 7 := h.1.1.1
theorem rw_8 (h : rowW S N) : 0 ≤ S 8 ∧ S 8 ≤ 12 := h.1.2.1.1
theorem rw_6 (h : rowW S N) : 0 ≤ S 6 ∧ S 6 ≤ 99999 := ⟨h.1.2.2.2.2.1, h.2.1⟩
theorem rw_s (h : rowW S N) : (0 ≤ S 0 ∧ S 0 ≤ 99) ∧ (0 ≤ S 1 ∧ S 1 ≤ 9) ∧ (0 ≤ S 2 ∧ S 2 ≤ 1) ∧ (100 ≤ S 3 ∧ S 3 ≤ 5000) ∧ (0 ≤ S 4 ∧ S 4 ≤ 99) ∧ (0 ≤ S 5 ∧ S 5 ≤ 99) := by
  have := h.1.2.2.1
  simpa only [stW, Int.zero_add] using this
theorem rw_l (h : rowW S N) : ∀ j, 0 ≤ j → j < S 8 → (0 ≤ S (102 + 3 * j) ∧ S (102 + 3 * j) < S 7) ∧ (1 ≤ S (102 + 3 * j + 1) ∧ S (102 + 3 * j + 1) ≤ 4000) ∧ (S (102 + 3 * j + 2) = 0 ∨ S (102 + 3 * j + 2) = 1) := h.1.2.1.2
theorem rw_m (h : rowW S N) : ∀ m, 0 ≤ m → m < S 7 → (0 ≤ S (11 + 13 * m + 1) ∧ S (11 + 13 * m + 1) < 6000) ∧ (100 ≤ S (11 + 13 * m + 2) ∧ S (11 + 13 * m + 2) ≤ 160) ∧ (0 ≤ S (11 + 13 * m + 3) ∧ 0 ≤ S (11 + 13 * m + 4) ∧ S (11 + 13 * m + 3) + S (11 + 13 * m + 4) ≤ 13 * S 6) ∧
    (0 ≤ S (11 + 13 * m + 5) ∧ S (11 + 13 * m + 5) ≤ 48000 * S 6) ∧ (S (11 + 13 * m + 7) = 0 ∨ S (11 + 13 * m + 7) = 1) ∧ (0 ≤ S (11 + 13 * m + 9) ∧ S (11 + 13 * m + 9) < 5000) ∧
    (0 ≤ S (11 + 13 * m + 11) ∧ S (11 + 13 * m + 11) ≤ S (11 + 13 * m + 3)) ∧ (0 ≤ S (11 + 13 * m + 12) ∧ S (11 + 13 * m + 12) ≤ S (11 + 13 * m + 4)) := fun m h0 h7 => by
  have := h.1.2.2.2.2.2 m h0 h7
  simpa only [mtW, Int.zero_add] using this
theorem rw_t (h : rowW S N) : ∀ m, 0 ≤ m → m < S 7 → -1 ≤ S (11 + 13 * m) ∧ S (11 + 13 * m) < m := fun m h0 h7 => by
  by_cases hm : m = 0
  · subst hm
    have := h.2.2.1 (by omega)
    rw [show (11 : Int) + 13 * 0 = 11 by omega]
    omega
  · have := h.1.1.2 m (by omega) h7
    omega
theorem tnF_bd (h : rowW S N) : ∀ m, 0 ≤ m → m < S 7 → 0 ≤ tnF S m ∧ tnF S m ≤ 1299987 := fun m h0 h7 => by
  have := rw_m h m h0 h7
  have := rw_6 h
  unfold tnF
  omega
theorem msF_bd (h : rowW S N) : ∀ m, 0 ≤ m → m < S 7 → -1000000000000000 ≤ msF S m ∧ msF S m ≤ 1000000000000000 := fun m h0 h7 => by
  have := rw_m h m h0 h7
  have := rw_6 h
  have := tnF_bd h m h0 h7
  unfold msF
  omega
theorem biF_bd (h : rowW S N) : ∀ m, 0 ≤ m → m < S 7 → 0 ≤ biF S m ∧ biF S m ≤ 200000000 := fun m h0 h7 => by
  have h1 := rw_m h m h0 h7
  have h6 := rw_6 h
  have hs := rw_s h
  unfold biF
  simp only [Int.zero_add]
  have a1 : 0 ≤ S 4 * (S (11 + 13 * m + 3) - S (11 + 13 * m + 11)) := Int.mul_nonneg (by omega) (by omega)
  have a2 : 0 ≤ S 5 * (S (11 + 13 * m + 4) - S (11 + 13 * m + 12)) := Int.mul_nonneg (by omega) (by omega)
  have b1 : S 4 * (S (11 + 13 * m + 3) - S (11 + 13 * m + 11)) ≤ 99 * S (11 + 13 * m + 3) := Int.mul_le_mul (by omega) (by omega) (by omega) (by omega)
  have b2 : S 5 * (S (11 + 13 * m + 4) - S (11 + 13 * m + 12)) ≤ 99 * S (11 + 13 * m + 4) := Int.mul_le_mul (by omega) (by omega) (by omega) (by omega)
  omega
end RW
theorem bts_bd12 {f : Int → Bool} {n : Nat} (h : n ≤ 12) : 0 ≤ bts f n ∧ bts f n ≤ 4096 := by
  have hb := bts_bd f n
  have hn : n = 0 ∨ n = 1 ∨ n = 2 ∨ n = 3 ∨ n = 4 ∨ n = 5 ∨ n = 6 ∨ n = 7 ∨ n = 8 ∨ n = 9 ∨ n = 10 ∨ n = 11 ∨ n = 12 := by omega
  rcases hn with rfl | rfl | rfl | rfl | rfl | rfl | rfl | rfl | rfl | rfl | rfl | rfl | rfl <;> omega
theorem bts_s1 {f : Int → Bool} {n : Nat} (h : n < 12) (hf : f n = true) : iI (bts f n) ||| (iI 1 <<< (iI (n : Int) &&& 31)) = iI (bts f (n + 1)) := by
  rw [shl_1 h, bts_add]
  simp only [bts, hf, if_true]
theorem bts_s0 {f : Int → Bool} {n : Nat} (hf : f n = false) : iI (bts f n) ||| iI 0 = iI (bts f (n + 1)) := by
  rw [bts_0 (n := n)]
  simp [bts, hf]
theorem bts_sb {f : Int → Bool} {n : Nat} {b : Int} (h : n < 12) (hb : (b = 1 ∧ f n = true) ∨ (b = 0 ∧ f n = false)) : iI (bts f n) ||| (iI b <<< (iI (n : Int) &&& 31)) = iI (bts f (n + 1)) := by
  rcases hb with ⟨rfl, hf⟩ | ⟨rfl, hf⟩
  · exact bts_s1 h hf
  · rw [shl_b (Or.inl rfl) (by omega) (by omega), if_neg (by omega)]
    exact bts_s0 hf
/-- those fed through m, among the first k -/
def fdF (S : Int → Int) (m : Int) (k : Nat) : Int := if 0 ≤ m ∧ m < S 7 then bts (fun i => thr S i m) k else -1
def al1 (S : Int → Int) (x : Int) (k : Nat) : Int := if x = 4 then bts (fun j => decide (S (102 + 3 * j + 2) = 1)) k else 0
def al2 (S : Int → Int) (x : Int) (k : Nat) : Int := if x = 4 then al1 S x (S 8).toNat else if x = 5 then bts (fun k => decide (S (11 + 13 * k + 7) = 1)) k else tnS S k
/-- writing a list of signs behind ln others -/
def wr (Pd : Int → Int) (ln : Int) : List Int → Int → Int
  | [] => Pd
  | c :: cs => wr (fu Pd ln c) (ln + 1) cs
theorem wr_app {Pd : Int → Int} {ln : Int} {a b : List Int} : wr (wr Pd ln a) (ln + a.length) b = wr Pd ln (a ++ b) := by
  induction a generalizing Pd ln with
  | nil => simp [wr]
  | cons c a ih =>
    simp only [List.cons_append, wr]
    rw [← ih]
    congr 1
    simp only [List.length_cons]
    omega
def tp : Nat → Int
  | 0 => 1
  | k + 1 => tp k * 10
theorem tp_p : ∀ k, 0 < tp k
  | 0 => by decide
  | k + 1 => by have := tp_p k; simp only [tp]; omega
def tq : Nat → Int
  | 0 => 0
  | k + 1 => tp k
theorem tq_s (k : Nat) : tq (k + 1) / 10 = tq k := by
  cases k with
  | zero => decide
  | succ k => simp only [tq, tp]; omega
theorem tp_bd {k : Nat} (h : k ≤ 9) : 0 < tp k ∧ tp k ≤ 1000000000 := by
  have hk : k = 0 ∨ k = 1 ∨ k = 2 ∨ k = 3 ∨ k = 4 ∨ k = 5 ∨ k = 6 ∨ k = 7 ∨ k = 8 ∨ k = 9 := by omega
  rcases hk with rfl | rfl | rfl | rfl | rfl | rfl | rfl | rfl | rfl | rfl <;> decide
/-- the last k digits -/
def decK (v : Int) : Nat → List Int
  | 0 => []
  | k + 1 => (48 + v / tp k % 10) :: decK v k
theorem decK_len {v : Int} : ∀ k, (decK v k).length = k
  | 0 => rfl
  | k + 1 => by simp only [decK, List.length_cons, decK_len k]
def nd (v : Int) : Nat := if v < 10 then 1 else if v < 100 then 2 else if v < 1000 then 3 else if v < 10000 then 4 else if v < 100000 then 5 else if v < 1000000 then 6 else if v < 10000000 then 7 else if v < 100000000 then 8 else if v < 1000000000 then 9 else 10
theorem nd_of {v : Int} {k : Nat} (h : k ≤ 9) (hv : 0 ≤ v) (h1 : k = 0 ∨ tp k ≤ v) (h2 : v / tp k ≤ 9) : nd v = k + 1 := by
  have hk : k = 0 ∨ k = 1 ∨ k = 2 ∨ k = 3 ∨ k = 4 ∨ k = 5 ∨ k = 6 ∨ k = 7 ∨ k = 8 ∨ k = 9 := by omega
  unfold nd
  rcases hk with rfl | rfl | rfl | rfl | rfl | rfl | rfl | rfl | rfl | rfl <;> simp [tp] at h1 h2 <;> (repeat' split) <;> omega
theorem nd_bd {v : Int} : 1 ≤ nd v ∧ nd v ≤ 10 := by unfold nd; (repeat' split) <;> omega
/-- a number's digits -/
def decL (v : Int) : List Int := decK v (nd v)
theorem decL_len {v : Int} : (decL v).length = nd v := decK_len _
def wrL (S : Int → Int) (m : Int) : List Int := (100 :: decL (S (11 + 13 * m + 3))) ++ (110 :: decL (S (11 + 13 * m + 4))) ++ (35 :: decL (S (11 + 13 * m + 6))) ++ (if S (11 + 13 * m + 7) = 1 then [33] else [])

theorem mw_X2_untilWeaker : mV "EnergyDiscsModel" yX2_untilWeaker cX2_untilWeaker 3 (some FieldType.int) 1 := ⟨⟨rfl, by decide +kernel, by decide +kernel, by decide +kernel⟩, q1425, qs61, q82, q1426⟩
set_option maxHeartbeats 4000000 in
theorem m_X2_untilWeaker {l : Launch} {D : va_G} {X : Nat → Nat} {b0 : Nat} {α : Nat → Nat} {S P L V Pd : Int → Int} {kn ln : Int} {G : gM} (hα : aN α) {m : Int} {N : Int} (hW : rowW S N) (hm : 0 ≤ m ∧ m < S 7) : gMet l D X b0 yX2_untilWeaker cX2_untilWeaker 3 (some FieldType.int) (rmE 2 0 0) [.ref (α 0), .int (iI m)] (tG D α S P kn L V Pd ln G) (eI (uwF S m) (tG D α S P kn L V Pd ln G)) := by
  refine gm_start (own := "EnergyDiscsModel") (lv := [some (.ref (α 0)), some (.int (iI m)), none]) (by decide +kernel) rfl (Nat.le_of_ble_eq_true rfl) rfl (fun p_ e_ s_ m_ args_ below_ meth_ c_ hc hnm => ?_)
  have h7 := rw_7 hW
  have h8 := rw_8 hW
  have h6 := rw_6 hW
  have hst := rw_s hW
  have hL := rw_l hW
  have hM := rw_m hW
  have hTr := rw_t hW
  have hm1 := hM m hm.1 hm.2
  refine gw_aload_n (q := 1) hc dX2_untilWeaker_0 rfl rfl xg_0 ?_
  refine gw_iconst (q := 2) hc dX2_untilWeaker_1 rfl ?_
  refine gw_callV (q := 5) (bc' := 0) (bs' := 0) (As := [_]) hc dX2_untilWeaker_2 rfl q1293 mw_X2_num (rc_o hc cE_MO (tg_m hα)) rfl rfl (m_X2_num hα (by omega)) ⟨Nat.le_of_ble_eq_true rfl, Nat.le_of_ble_eq_true rfl⟩ (Nat.le_of_ble_eq_true rfl) (Nat.le_of_ble_eq_true rfl) (Nat.le_of_ble_eq_true rfl) (goI fun r2 G2 h2 => ?_)
  obtain ⟨rfl, rfl⟩ := h2
  refine gw_aload_n (q := 6) hc dX2_untilWeaker_5 rfl rfl xg_0 ?_
  refine gw_iload_n (q := 7) hc dX2_untilWeaker_6 rfl rfl xg_1 ?_
  refine gw_bipush (q := 9) hc dX2_untilWeaker_7 rfl (by decide) ?_
  refine gw_callV (q := 12) (bc' := 0) (bs' := 0) (As := [_, _]) hc dX2_untilWeaker_9 rfl q1350 mw_X2_its (rc_o hc cE_MO (tg_m hα)) rfl rfl (m_X2_its hα (by omega)) ⟨Nat.le_of_ble_eq_true rfl, Nat.le_of_ble_eq_true rfl⟩ (Nat.le_of_ble_eq_true rfl) (Nat.le_of_ble_eq_true rfl) (Nat.le_of_ble_eq_true rfl) (goI fun r9 G9 h9 => ?_)
  obtain ⟨rfl, rfl⟩ := h9
  refine gw_isub (q := 13) hc dX2_untilWeaker_12 rfl ?_
  refine gw_istore_n (q := 14) hc dX2_untilWeaker_13 rfl rfl xs_2 (by decide) (n2p xg_1 rfl) ?_
  refine gw_aload_n (q := 15) hc dX2_untilWeaker_14 rfl rfl xg_0 ?_
  refine gw_iload_n (q := 16) hc dX2_untilWeaker_15 rfl rfl xg_1 ?_
  refine gw_iconst (q := 17) hc dX2_untilWeaker_16 rfl ?_
  refine gw_callV (q := 20) (bc' := 0) (bs' := 0) (As := [_, _]) hc dX2_untilWeaker_17 rfl q1350 mw_X2_its (rc_o hc cE_MO (tg_m hα)) rfl rfl (m_X2_its hα (by omega)) ⟨Nat.le_of_ble_eq_true rfl, Nat.le_of_ble_eq_true rfl⟩ (Nat.le_of_ble_eq_true rfl) (Nat.le_of_ble_eq_true rfl) (Nat.le_of_ble_eq_true rfl) (goI fun r17 G17 h17 => ?_)
  obtain ⟨rfl, rfl⟩ := h17
  refine gw_sipush (q := 23) hc dX2_untilWeaker_20 rfl (by decide) ?_
  refine gw_icmp_ne  (q := 26) (t := 31) hc dX2_untilWeaker_23 rfl (by decide) (by omega) (by omega) (fun c23 => ?_) (fun c23 => ?_)
  · skip
    refine gw_iload_n (q := 32) hc dX2_untilWeaker_31 rfl rfl xg_2 ?_
    refine gw_iconst (q := 33) hc dX2_untilWeaker_32 rfl ?_
    refine gw_icmp_ge  (q := 36) (t := 40) hc dX2_untilWeaker_33 rfl (by decide) (by omega) (by omega) (fun c33 => ?_) (fun c33 => ?_)
    · skip
      refine gw_iload_n (q := 41) hc dX2_untilWeaker_40 rfl rfl xg_2 ?_
      exact gw_iret hc dX2_untilWeaker_41 ⟨_, rfl, ⟨by unfold uwF; (repeat' split) <;> omega, rfl⟩⟩
    · skip
      refine gw_iconst (q := 37) hc dX2_untilWeaker_36 rfl ?_
      refine gw_goto (q := 41) hc dX2_untilWeaker_37 (by decide) ?_
      exact gw_iret hc dX2_untilWeaker_41 ⟨_, rfl, ⟨by unfold uwF; (repeat' split) <;> omega, rfl⟩⟩
  · skip
    refine gw_bipush (q := 28) hc dX2_untilWeaker_26 rfl (by decide) ?_
    refine gw_goto (q := 41) hc dX2_untilWeaker_28 (by decide) ?_
    exact gw_iret hc dX2_untilWeaker_41 ⟨_, rfl, ⟨by unfold uwF; (repeat' split) <;> omega, rfl⟩⟩

theorem mw_X2_of : mV "EnergyDiscsModel" yX2_of cX2_of 3 (some FieldType.int) 2 := ⟨⟨rfl, by decide +kernel, by decide +kernel, by decide +kernel⟩, q1420, q1421, q82, q1422⟩
set_option maxHeartbeats 4000000 in
theorem m_X2_of {l : Launch} {D : va_G} {X : Nat → Nat} {b0 : Nat} {α : Nat → Nat} {S P L V Pd : Int → Int} {kn ln : Int} {G : gM} (hα : aN α) {m : Int} {x : Int} {N : Int} (hW : rowW S N) (hm : rI m) (hx : rI x) : gMet l D X b0 yX2_of cX2_of 3 (some FieldType.int) (rmE 4 0 0) [.ref (α 0), .int (iI m), .int (iI x)] (tG D α S P kn L V Pd ln G) (eI (ofF S m x) (tG D α S P kn L V Pd ln G)) := by
  refine gm_start (own := "EnergyDiscsModel") (lv := [some (.ref (α 0)), some (.int (iI m)), some (.int (iI x))]) (by decide +kernel) rfl (Nat.le_of_ble_eq_true rfl) rfl (fun p_ e_ s_ m_ args_ below_ meth_ c_ hc hnm => ?_)
  have h7 := rw_7 hW
  have h8 := rw_8 hW
  have h6 := rw_6 hW
  have hst := rw_s hW
  have hL := rw_l hW
  have hM := rw_m hW
  have hTr := rw_t hW
  refine gw_aload_n (q := 1) hc dX2_of_0 rfl rfl xg_0 ?_
  refine gw_iload_n (q := 2) hc dX2_of_1 rfl rfl xg_1 ?_
  refine gw_callV (q := 5) (bc' := 0) (bs' := 0) (As := [_]) hc dX2_of_2 rfl q1305 mw_X2_isMeter (rc_o hc cE_MO (tg_m hα)) rfl rfl (m_X2_isMeter hα (by omega) (by omega)) ⟨Nat.le_of_ble_eq_true rfl, Nat.le_of_ble_eq_true rfl⟩ (Nat.le_of_ble_eq_true rfl) (Nat.le_of_ble_eq_true rfl) (Nat.le_of_ble_eq_true rfl) (goI fun r2 G2 h2 => ?_)
  obtain ⟨b2, rfl⟩ := h2
  refine gw_if_ne  (q := 8) (t := 10) hc dX2_of_5 rfl (by decide) (by omega) (fun c5 => ?_) (fun c5 => ?_)
  · have hM1 : 0 ≤ m ∧ m < S 7 := by omega
    have hm1 := hM m hM1.1 hM1.2
    have ht1 := hTr m hM1.1 hM1.2
    refine gw_iload_n (q := 11) hc dX2_of_10 rfl rfl xg_2 ?_
    rcases (by omega : x < 0 ∨ x = 0 ∨ x = 1 ∨ x = 2 ∨ x = 3 ∨ x = 4 ∨ x = 5 ∨ x = 6 ∨ x = 7 ∨ x = 8 ∨ x = 9 ∨ x = 10 ∨ x = 11 ∨ 11 < x) with w11 | w11 | w11 | w11 | w11 | w11 | w11 | w11 | w11 | w11 | w11 | w11 | w11 | w11
    · refine gw_tableOut (t := 164) hc dX2_of_11 (by omega) (Or.inl w11) (by decide) ?_
      refine gw_bipush (q := 166) hc dX2_of_164 rfl (by decide) ?_
      exact gw_iret hc dX2_of_166 ⟨_, rfl, ⟨by clear hL hM hTr hst h6 h7 h8 hW hm1 ht1; unfold ofF; rw [if_neg (fun z => z hM1)]; (repeat rw [if_neg (by omega)]), rfl⟩⟩
    · refine gw_tableIn (t := 72) hc dX2_of_11 (by omega) (by omega) (by rw [w11]; rfl) (by decide) ?_
      refine gw_aload_n (q := 73) hc dX2_of_72 rfl rfl xg_0 ?_
      refine gw_iload_n (q := 74) hc dX2_of_73 rfl rfl xg_1 ?_
      refine gw_iconst (q := 75) hc dX2_of_74 rfl ?_
      refine gw_callV (q := 78) (bc' := 0) (bs' := 0) (As := [_, _]) hc dX2_of_75 rfl q1350 mw_X2_its (rc_o hc cE_MO (tg_m hα)) rfl rfl (m_X2_its hα (by omega)) ⟨Nat.le_of_ble_eq_true rfl, Nat.le_of_ble_eq_true rfl⟩ (Nat.le_of_ble_eq_true rfl) (Nat.le_of_ble_eq_true rfl) (Nat.le_of_ble_eq_true rfl) (goI fun r75 G75 h75 => ?_)
      obtain ⟨rfl, rfl⟩ := h75
      refine gw_if_ge  (q := 81) (t := 86) hc dX2_of_78 rfl (by decide) (by simp only [Int.add_zero]; omega) (fun c78 => ?_) (fun c78 => ?_)
      · skip
        refine gw_aload_n (q := 87) hc dX2_of_86 rfl rfl xg_0 ?_
        refine gw_iload_n (q := 88) hc dX2_of_87 rfl rfl xg_1 ?_
        refine gw_iconst (q := 89) hc dX2_of_88 rfl ?_
        refine gw_callV (q := 92) (bc' := 0) (bs' := 0) (As := [_, _]) hc dX2_of_89 rfl q1350 mw_X2_its (rc_o hc cE_MO (tg_m hα)) rfl rfl (m_X2_its hα (by omega)) ⟨Nat.le_of_ble_eq_true rfl, Nat.le_of_ble_eq_true rfl⟩ (Nat.le_of_ble_eq_true rfl) (Nat.le_of_ble_eq_true rfl) (Nat.le_of_ble_eq_true rfl) (goI fun r89 G89 h89 => ?_)
        obtain ⟨rfl, rfl⟩ := h89
        exact gw_iret hc dX2_of_92 ⟨_, rfl, ⟨by clear hL hM hTr hst h6 h7 h8 hW; unfold ofF; rw [if_neg (fun z => z hM1)]; rw [if_pos w11]; simp only [Int.add_zero] at c78 ⊢; first | rw [if_pos (by omega)] | rw [if_neg (by omega)], rfl⟩⟩
      · skip
        refine gw_bipush (q := 83) hc dX2_of_81 rfl (by decide) ?_
        refine gw_goto (q := 92) hc dX2_of_83 (by decide) ?_
        exact gw_iret hc dX2_of_92 ⟨_, rfl, ⟨by clear hL hM hTr hst h6 h7 h8 hW; unfold ofF; rw [if_neg (fun z => z hM1)]; rw [if_pos w11]; simp only [Int.add_zero] at c78 ⊢; first | rw [if_pos (by omega)] | rw [if_neg (by omega)], rfl⟩⟩
    · refine gw_tableIn (t := 93) hc dX2_of_11 (by omega) (by omega) (by rw [w11]; rfl) (by decide) ?_
      refine gw_aload_n (q := 94) hc dX2_of_93 rfl rfl xg_0 ?_
      refine gw_iload_n (q := 95) hc dX2_of_94 rfl rfl xg_1 ?_
      refine gw_callV (q := 98) (bc' := 0) (bs' := 0) (As := [_]) hc dX2_of_95 rfl q1383 mw_X2_power (rc_o hc cE_MO (tg_m hα)) rfl rfl (m_X2_power hα hW.1.1 hW.1.2.1 (by omega)) ⟨Nat.le_of_ble_eq_true rfl, Nat.le_of_ble_eq_true rfl⟩ (Nat.le_of_ble_eq_true rfl) (Nat.le_of_ble_eq_true rfl) (Nat.le_of_ble_eq_true rfl) (goI fun r95 G95 h95 => ?_)
      obtain ⟨rfl, rfl⟩ := h95
      exact gw_iret hc dX2_of_98 ⟨_, rfl, ⟨by clear hL hM hTr hst h6 h7 h8 hW; unfold ofF; rw [if_neg (fun z => z hM1)]; rw [if_neg (by omega), if_pos w11], rfl⟩⟩
    · refine gw_tableIn (t := 99) hc dX2_of_11 (by omega) (by omega) (by rw [w11]; rfl) (by decide) ?_
      refine gw_aload_n (q := 100) hc dX2_of_99 rfl rfl xg_0 ?_
      refine gw_iload_n (q := 101) hc dX2_of_100 rfl rfl xg_1 ?_
      refine gw_iload_n (q := 102) hc dX2_of_101 rfl rfl xg_2 ?_
      refine gw_iconst (q := 103) hc dX2_of_102 rfl ?_
      refine gw_isub (q := 104) hc dX2_of_103 rfl ?_
      refine gw_callV (q := 107) (bc' := 0) (bs' := 0) (As := [_, _]) hc dX2_of_104 rfl q1350 mw_X2_its (rc_o hc cE_MO (tg_m hα)) rfl rfl (m_X2_its hα (by omega)) ⟨Nat.le_of_ble_eq_true rfl, Nat.le_of_ble_eq_true rfl⟩ (Nat.le_of_ble_eq_true rfl) (Nat.le_of_ble_eq_true rfl) (Nat.le_of_ble_eq_true rfl) (goI fun r104 G104 h104 => ?_)
      obtain ⟨rfl, rfl⟩ := h104
      exact gw_iret hc dX2_of_107 ⟨_, rfl, ⟨by clear hL hM hTr hst h6 h7 h8 hW; unfold ofF; rw [if_neg (fun z => z hM1)]; rw [if_neg (by omega), if_neg (by omega), if_pos w11]; exact congrArg S (by omega), rfl⟩⟩
    · refine gw_tableIn (t := 99) hc dX2_of_11 (by omega) (by omega) (by rw [w11]; rfl) (by decide) ?_
      refine gw_aload_n (q := 100) hc dX2_of_99 rfl rfl xg_0 ?_
      refine gw_iload_n (q := 101) hc dX2_of_100 rfl rfl xg_1 ?_
      refine gw_iload_n (q := 102) hc dX2_of_101 rfl rfl xg_2 ?_
      refine gw_iconst (q := 103) hc dX2_of_102 rfl ?_
      refine gw_isub (q := 104) hc dX2_of_103 rfl ?_
      refine gw_callV (q := 107) (bc' := 0) (bs' := 0) (As := [_, _]) hc dX2_of_104 rfl q1350 mw_X2_its (rc_o hc cE_MO (tg_m hα)) rfl rfl (m_X2_its hα (by omega)) ⟨Nat.le_of_ble_eq_true rfl, Nat.le_of_ble_eq_true rfl⟩ (Nat.le_of_ble_eq_true rfl) (Nat.le_of_ble_eq_true rfl) (Nat.le_of_ble_eq_true rfl) (goI fun r104 G104 h104 => ?_)
      obtain ⟨rfl, rfl⟩ := h104
      exact gw_iret hc dX2_of_107 ⟨_, rfl, ⟨by clear hL hM hTr hst h6 h7 h8 hW; unfold ofF; rw [if_neg (fun z => z hM1)]; rw [if_neg (by omega), if_neg (by omega), if_neg (by omega), if_pos w11]; exact congrArg S (by omega), rfl⟩⟩
    · refine gw_tableIn (t := 99) hc dX2_of_11 (by omega) (by omega) (by rw [w11]; rfl) (by decide) ?_
      refine gw_aload_n (q := 100) hc dX2_of_99 rfl rfl xg_0 ?_
      refine gw_iload_n (q := 101) hc dX2_of_100 rfl rfl xg_1 ?_
      refine gw_iload_n (q := 102) hc dX2_of_101 rfl rfl xg_2 ?_
      refine gw_iconst (q := 103) hc dX2_of_102 rfl ?_
      refine gw_isub (q := 104) hc dX2_of_103 rfl ?_
      refine gw_callV (q := 107) (bc' := 0) (bs' := 0) (As := [_, _]) hc dX2_of_104 rfl q1350 mw_X2_its (rc_o hc cE_MO (tg_m hα)) rfl rfl (m_X2_its hα (by omega)) ⟨Nat.le_of_ble_eq_true rfl, Nat.le_of_ble_eq_true rfl⟩ (Nat.le_of_ble_eq_true rfl) (Nat.le_of_ble_eq_true rfl) (Nat.le_of_ble_eq_true rfl) (goI fun r104 G104 h104 => ?_)
      obtain ⟨rfl, rfl⟩ := h104
      exact gw_iret hc dX2_of_107 ⟨_, rfl, ⟨by clear hL hM hTr hst h6 h7 h8 hW; unfold ofF; rw [if_neg (fun z => z hM1)]; rw [if_neg (by omega), if_neg (by omega), if_neg (by omega), if_neg (by omega), if_pos w11]; exact congrArg S (by omega), rfl⟩⟩
    · refine gw_tableIn (t := 99) hc dX2_of_11 (by omega) (by omega) (by rw [w11]; rfl) (by decide) ?_
      refine gw_aload_n (q := 100) hc dX2_of_99 rfl rfl xg_0 ?_
      refine gw_iload_n (q := 101) hc dX2_of_100 rfl rfl xg_1 ?_
      refine gw_iload_n (q := 102) hc dX2_of_101 rfl rfl xg_2 ?_
      refine gw_iconst (q := 103) hc dX2_of_102 rfl ?_
      refine gw_isub (q := 104) hc dX2_of_103 rfl ?_
      refine gw_callV (q := 107) (bc' := 0) (bs' := 0) (As := [_, _]) hc dX2_of_104 rfl q1350 mw_X2_its (rc_o hc cE_MO (tg_m hα)) rfl rfl (m_X2_its hα (by omega)) ⟨Nat.le_of_ble_eq_true rfl, Nat.le_of_ble_eq_true rfl⟩ (Nat.le_of_ble_eq_true rfl) (Nat.le_of_ble_eq_true rfl) (Nat.le_of_ble_eq_true rfl) (goI fun r104 G104 h104 => ?_)
      obtain ⟨rfl, rfl⟩ := h104
      exact gw_iret hc dX2_of_107 ⟨_, rfl, ⟨by clear hL hM hTr hst h6 h7 h8 hW; unfold ofF; rw [if_neg (fun z => z hM1)]; rw [if_neg (by omega), if_neg (by omega), if_neg (by omega), if_neg (by omega), if_neg (by omega), if_pos w11]; exact congrArg S (by omega), rfl⟩⟩
    · refine gw_tableIn (t := 108) hc dX2_of_11 (by omega) (by omega) (by rw [w11]; rfl) (by decide) ?_
      refine gw_aload_n (q := 109) hc dX2_of_108 rfl rfl xg_0 ?_
      refine gw_get (q := 112) hc dX2_of_109 rfl cE_MO 0 (by decide) q1252 (fun _ h => h) (tg_m hα) xg_0 ?_
      refine gw_iconst (q := 113) hc dX2_of_112 rfl ?_
      refine gw_iload_n (q := 114) hc dX2_of_113 rfl rfl xg_1 ?_
      refine gw_callS (q := 117) (bc' := 0) (bs' := 0) (As := [_, _]) hc dX2_of_114 rfl q1313 mw_X2_at rfl rfl (m_X2_at) ⟨Nat.le_of_ble_eq_true rfl, Nat.le_of_ble_eq_true rfl⟩ (Nat.le_of_ble_eq_true rfl) (Nat.le_of_ble_eq_true rfl) (Nat.le_of_ble_eq_true rfl) (goI fun r114 G114 h114 => ?_)
      obtain ⟨rfl, rfl⟩ := h114
      refine gw_iconst (q := 118) hc dX2_of_117 rfl ?_
      refine gw_iadd (q := 119) hc dX2_of_118 rfl ?_
      refine gw_lald (q := 120) hc dX2_of_119 rfl (tg_s hα) (by omega) (by omega) ?_
      refine gw_ldc2 (q := 123) hc dX2_of_120 rfl (v := 6000) q1395 (by decide) ?_
      refine gw_ldiv (q := 124) hc dX2_of_123 rfl (by simp only [Int.zero_add]; omega) (by decide) ?_
      refine gw_l2i (q := 125) hc dX2_of_124 rfl ?_
      exact gw_iret hc dX2_of_125 ⟨_, rfl, ⟨by clear hL hM hTr hst h6 h7 h8 hW; unfold ofF; rw [if_neg (fun z => z hM1)]; rw [if_neg (by omega), if_neg (by omega), if_neg (by omega), if_neg (by omega), if_neg (by omega), if_neg (by omega), if_pos w11]; simp only [Int.zero_add], rfl⟩⟩
    · refine gw_tableIn (t := 126) hc dX2_of_11 (by omega) (by omega) (by rw [w11]; rfl) (by decide) ?_
      refine gw_aload_n (q := 127) hc dX2_of_126 rfl rfl xg_0 ?_
      refine gw_iload_n (q := 128) hc dX2_of_127 rfl rfl xg_1 ?_
      refine gw_bipush (q := 130) hc dX2_of_128 rfl (by decide) ?_
      refine gw_callV (q := 133) (bc' := 0) (bs' := 0) (As := [_, _]) hc dX2_of_130 rfl q1350 mw_X2_its (rc_o hc cE_MO (tg_m hα)) rfl rfl (m_X2_its hα (by omega)) ⟨Nat.le_of_ble_eq_true rfl, Nat.le_of_ble_eq_true rfl⟩ (Nat.le_of_ble_eq_true rfl) (Nat.le_of_ble_eq_true rfl) (Nat.le_of_ble_eq_true rfl) (goI fun r130 G130 h130 => ?_)
      obtain ⟨rfl, rfl⟩ := h130
      exact gw_iret hc dX2_of_133 ⟨_, rfl, ⟨by clear hL hM hTr hst h6 h7 h8 hW; unfold ofF; rw [if_neg (fun z => z hM1)]; rw [if_neg (by omega), if_neg (by omega), if_neg (by omega), if_neg (by omega), if_neg (by omega), if_neg (by omega), if_neg (by omega), if_pos w11], rfl⟩⟩
    · refine gw_tableIn (t := 134) hc dX2_of_11 (by omega) (by omega) (by rw [w11]; rfl) (by decide) ?_
      refine gw_aload_n (q := 135) hc dX2_of_134 rfl rfl xg_0 ?_
      refine gw_iload_n (q := 136) hc dX2_of_135 rfl rfl xg_1 ?_
      refine gw_bipush (q := 138) hc dX2_of_136 rfl (by decide) ?_
      refine gw_callV (q := 141) (bc' := 0) (bs' := 0) (As := [_, _]) hc dX2_of_138 rfl q1350 mw_X2_its (rc_o hc cE_MO (tg_m hα)) rfl rfl (m_X2_its hα (by omega)) ⟨Nat.le_of_ble_eq_true rfl, Nat.le_of_ble_eq_true rfl⟩ (Nat.le_of_ble_eq_true rfl) (Nat.le_of_ble_eq_true rfl) (Nat.le_of_ble_eq_true rfl) (goI fun r138 G138 h138 => ?_)
      obtain ⟨rfl, rfl⟩ := h138
      exact gw_iret hc dX2_of_141 ⟨_, rfl, ⟨by clear hL hM hTr hst h6 h7 h8 hW; unfold ofF; rw [if_neg (fun z => z hM1)]; rw [if_neg (by omega), if_neg (by omega), if_neg (by omega), if_neg (by omega), if_neg (by omega), if_neg (by omega), if_neg (by omega), if_neg (by omega), if_pos w11], rfl⟩⟩
    · refine gw_tableIn (t := 142) hc dX2_of_11 (by omega) (by omega) (by rw [w11]; rfl) (by decide) ?_
      refine gw_aload_n (q := 143) hc dX2_of_142 rfl rfl xg_0 ?_
      refine gw_iload_n (q := 144) hc dX2_of_143 rfl rfl xg_1 ?_
      refine gw_bipush (q := 146) hc dX2_of_144 rfl (by decide) ?_
      refine gw_callV (q := 149) (bc' := 0) (bs' := 0) (As := [_, _]) hc dX2_of_146 rfl q1350 mw_X2_its (rc_o hc cE_MO (tg_m hα)) rfl rfl (m_X2_its hα (by omega)) ⟨Nat.le_of_ble_eq_true rfl, Nat.le_of_ble_eq_true rfl⟩ (Nat.le_of_ble_eq_true rfl) (Nat.le_of_ble_eq_true rfl) (Nat.le_of_ble_eq_true rfl) (goI fun r146 G146 h146 => ?_)
      obtain ⟨rfl, rfl⟩ := h146
      exact gw_iret hc dX2_of_149 ⟨_, rfl, ⟨by clear hL hM hTr hst h6 h7 h8 hW; unfold ofF; rw [if_neg (fun z => z hM1)]; rw [if_neg (by omega), if_neg (by omega), if_neg (by omega), if_neg (by omega), if_neg (by omega), if_neg (by omega), if_neg (by omega), if_neg (by omega), if_neg (by omega), if_pos w11], rfl⟩⟩
    · refine gw_tableIn (t := 150) hc dX2_of_11 (by omega) (by omega) (by rw [w11]; rfl) (by decide) ?_
      refine gw_aload_n (q := 151) hc dX2_of_150 rfl rfl xg_0 ?_
      refine gw_iload_n (q := 152) hc dX2_of_151 rfl rfl xg_1 ?_
      refine gw_callV (q := 155) (bc' := 0) (bs' := 0) (As := [_]) hc dX2_of_152 rfl q1423 mw_X2_untilWeaker (rc_o hc cE_MO (tg_m hα)) rfl rfl (m_X2_untilWeaker hα hW hM1) ⟨Nat.le_of_ble_eq_true rfl, Nat.le_of_ble_eq_true rfl⟩ (Nat.le_of_ble_eq_true rfl) (Nat.le_of_ble_eq_true rfl) (Nat.le_of_ble_eq_true rfl) (goI fun r152 G152 h152 => ?_)
      obtain ⟨rfl, rfl⟩ := h152
      exact gw_iret hc dX2_of_155 ⟨_, rfl, ⟨by clear hL hM hTr hst h6 h7 h8 hW; unfold ofF; rw [if_neg (fun z => z hM1)]; rw [if_neg (by omega), if_neg (by omega), if_neg (by omega), if_neg (by omega), if_neg (by omega), if_neg (by omega), if_neg (by omega), if_neg (by omega), if_neg (by omega), if_neg (by omega), if_pos w11], rfl⟩⟩
    · refine gw_tableIn (t := 156) hc dX2_of_11 (by omega) (by omega) (by rw [w11]; rfl) (by decide) ?_
      refine gw_aload_n (q := 157) hc dX2_of_156 rfl rfl xg_0 ?_
      refine gw_iload_n (q := 158) hc dX2_of_157 rfl rfl xg_1 ?_
      refine gw_bipush (q := 160) hc dX2_of_158 rfl (by decide) ?_
      refine gw_callV (q := 163) (bc' := 0) (bs' := 0) (As := [_, _]) hc dX2_of_160 rfl q1350 mw_X2_its (rc_o hc cE_MO (tg_m hα)) rfl rfl (m_X2_its hα (by omega)) ⟨Nat.le_of_ble_eq_true rfl, Nat.le_of_ble_eq_true rfl⟩ (Nat.le_of_ble_eq_true rfl) (Nat.le_of_ble_eq_true rfl) (Nat.le_of_ble_eq_true rfl) (goI fun r160 G160 h160 => ?_)
      obtain ⟨rfl, rfl⟩ := h160
      exact gw_iret hc dX2_of_163 ⟨_, rfl, ⟨by clear hL hM hTr hst h6 h7 h8 hW; unfold ofF; rw [if_neg (fun z => z hM1)]; rw [if_neg (by omega), if_neg (by omega), if_neg (by omega), if_neg (by omega), if_neg (by omega), if_neg (by omega), if_neg (by omega), if_neg (by omega), if_neg (by omega), if_neg (by omega), if_neg (by omega), if_pos w11], rfl⟩⟩
    · refine gw_tableOut (t := 164) hc dX2_of_11 (by omega) (Or.inr w11) (by decide) ?_
      refine gw_bipush (q := 166) hc dX2_of_164 rfl (by decide) ?_
      exact gw_iret hc dX2_of_166 ⟨_, rfl, ⟨by clear hL hM hTr hst h6 h7 h8 hW hm1 ht1; unfold ofF; rw [if_neg (fun z => z hM1)]; (repeat rw [if_neg (by omega)]), rfl⟩⟩
  · have c5n : ¬ (0 ≤ m ∧ m < S 7) := by omega
    refine gw_iconst (q := 9) hc dX2_of_8 rfl ?_
    exact gw_iret hc dX2_of_9 ⟨_, rfl, ⟨(if_pos c5n).symm, rfl⟩⟩

theorem mw_X2_ofLoad : mV "EnergyDiscsModel" yX2_ofLoad cX2_ofLoad 3 (some FieldType.int) 2 := ⟨⟨rfl, by decide +kernel, by decide +kernel, by decide +kernel⟩, q1428, q1429, q82, q1430⟩
set_option maxHeartbeats 4000000 in
theorem m_X2_ofLoad {l : Launch} {D : va_G} {X : Nat → Nat} {b0 : Nat} {α : Nat → Nat} {S P L V Pd : Int → Int} {kn ln : Int} {G : gM} (hα : aN α) {j : Int} {x : Int} {N : Int} (hW : rowW S N) (hj : rI j) (hx : rI x) : gMet l D X b0 yX2_ofLoad cX2_ofLoad 3 (some FieldType.int) (rmE 2 0 0) [.ref (α 0), .int (iI j), .int (iI x)] (tG D α S P kn L V Pd ln G) (eI (olF S j x) (tG D α S P kn L V Pd ln G)) := by
  refine gm_start (own := "EnergyDiscsModel") (lv := [some (.ref (α 0)), some (.int (iI j)), some (.int (iI x))]) (by decide +kernel) rfl (Nat.le_of_ble_eq_true rfl) rfl (fun p_ e_ s_ m_ args_ below_ meth_ c_ hc hnm => ?_)
  have h7 := rw_7 hW
  have h8 := rw_8 hW
  have h6 := rw_6 hW
  have hst := rw_s hW
  have hL := rw_l hW
  have hM := rw_m hW
  have hTr := rw_t hW
  refine gw_aload_n (q := 1) hc dX2_ofLoad_0 rfl rfl xg_0 ?_
  refine gw_iload_n (q := 2) hc dX2_ofLoad_1 rfl rfl xg_1 ?_
  refine gw_callV (q := 5) (bc' := 0) (bs' := 0) (As := [_]) hc dX2_ofLoad_2 rfl q1334 mw_X2_isLoad (rc_o hc cE_MO (tg_m hα)) rfl rfl (m_X2_isLoad hα (by omega) (by omega)) ⟨Nat.le_of_ble_eq_true rfl, Nat.le_of_ble_eq_true rfl⟩ (Nat.le_of_ble_eq_true rfl) (Nat.le_of_ble_eq_true rfl) (Nat.le_of_ble_eq_true rfl) (goI fun r2 G2 h2 => ?_)
  obtain ⟨b2, rfl⟩ := h2
  refine gw_if_ne  (q := 8) (t := 10) hc dX2_ofLoad_5 rfl (by decide) (by omega) (fun c5 => ?_) (fun c5 => ?_)
  · skip
    refine gw_iload_n (q := 11) hc dX2_ofLoad_10 rfl rfl xg_2 ?_
    refine gw_iconst (q := 12) hc dX2_ofLoad_11 rfl ?_
    refine gw_iconst (q := 13) hc dX2_ofLoad_12 rfl ?_
    refine gw_callS (q := 16) (bc' := 0) (bs' := 0) (As := [_, _, _]) hc dX2_ofLoad_13 rfl q1280 mw_X2_in rfl rfl (m_X2_in (by omega) (by omega) (by omega)) ⟨Nat.le_of_ble_eq_true rfl, Nat.le_of_ble_eq_true rfl⟩ (Nat.le_of_ble_eq_true rfl) (Nat.le_of_ble_eq_true rfl) (Nat.le_of_ble_eq_true rfl) (goI fun r13 G13 h13 => ?_)
    obtain ⟨b13, rfl⟩ := h13
    refine gw_if_eq  (q := 19) (t := 34) hc dX2_ofLoad_16 rfl (by decide) (by omega) (fun c16 => ?_) (fun c16 => ?_)
    · skip
      refine gw_bipush (q := 36) hc dX2_ofLoad_34 rfl (by decide) ?_
      exact gw_iret hc dX2_ofLoad_36 ⟨_, rfl, ⟨by unfold olF; (repeat' split) <;> first | omega | rfl, rfl⟩⟩
    · skip
      refine gw_aload_n (q := 20) hc dX2_ofLoad_19 rfl rfl xg_0 ?_
      refine gw_bipush (q := 22) hc dX2_ofLoad_20 rfl (by decide) ?_
      refine gw_iconst (q := 23) hc dX2_ofLoad_22 rfl ?_
      refine gw_iload_n (q := 24) hc dX2_ofLoad_23 rfl rfl xg_1 ?_
      refine gw_imul (q := 25) hc dX2_ofLoad_24 rfl ?_
      refine gw_iadd (q := 26) hc dX2_ofLoad_25 rfl ?_
      refine gw_iload_n (q := 27) hc dX2_ofLoad_26 rfl rfl xg_2 ?_
      refine gw_iadd (q := 28) hc dX2_ofLoad_27 rfl ?_
      refine gw_callV (q := 31) (bc' := 0) (bs' := 0) (As := [_]) hc dX2_ofLoad_28 rfl q1293 mw_X2_num (rc_o hc cE_MO (tg_m hα)) rfl rfl (m_X2_num hα (by omega)) ⟨Nat.le_of_ble_eq_true rfl, Nat.le_of_ble_eq_true rfl⟩ (Nat.le_of_ble_eq_true rfl) (Nat.le_of_ble_eq_true rfl) (Nat.le_of_ble_eq_true rfl) (goI fun r28 G28 h28 => ?_)
      obtain ⟨rfl, rfl⟩ := h28
      refine gw_goto (q := 36) hc dX2_ofLoad_31 (by decide) ?_
      exact gw_iret hc dX2_ofLoad_36 ⟨_, rfl, ⟨by unfold olF; (repeat' split) <;> first | omega | rfl, rfl⟩⟩
  · skip
    refine gw_iconst (q := 9) hc dX2_ofLoad_8 rfl ?_
    exact gw_iret hc dX2_ofLoad_9 ⟨_, rfl, ⟨by unfold olF; (repeat' split) <;> first | omega | rfl, rfl⟩⟩

theorem mw_X2_turnsOf : mV "EnergyDiscsModel" yX2_turnsOf cX2_turnsOf 2 (some FieldType.int) 1 := ⟨⟨rfl, by decide +kernel, by decide +kernel, by decide +kernel⟩, q1437, qs62, q82, q1438⟩
set_option maxHeartbeats 4000000 in
theorem m_X2_turnsOf {l : Launch} {D : va_G} {X : Nat → Nat} {b0 : Nat} {α : Nat → Nat} {S P L V Pd : Int → Int} {kn ln : Int} {G : gM} (hα : aN α) {m : Int} (hm : 0 ≤ m ∧ m < 7) : gMet l D X b0 yX2_turnsOf cX2_turnsOf 2 (some FieldType.int) (rmE 2 0 0) [.ref (α 0), .int (iI m)] (tG D α S P kn L V Pd ln G) (eI (tnF S m) (tG D α S P kn L V Pd ln G)) := by
  refine gm_start (own := "EnergyDiscsModel") (lv := [some (.ref (α 0)), some (.int (iI m))]) (by decide +kernel) rfl (Nat.le_of_ble_eq_true rfl) rfl (fun p_ e_ s_ m_ args_ below_ meth_ c_ hc hnm => ?_)
  refine gw_aload_n (q := 1) hc dX2_turnsOf_0 rfl rfl xg_0 ?_
  refine gw_iload_n (q := 2) hc dX2_turnsOf_1 rfl rfl xg_1 ?_
  refine gw_iconst (q := 3) hc dX2_turnsOf_2 rfl ?_
  refine gw_callV (q := 6) (bc' := 0) (bs' := 0) (As := [_, _]) hc dX2_turnsOf_3 rfl q1350 mw_X2_its (rc_o hc cE_MO (tg_m hα)) rfl rfl (m_X2_its hα (by omega)) ⟨Nat.le_of_ble_eq_true rfl, Nat.le_of_ble_eq_true rfl⟩ (Nat.le_of_ble_eq_true rfl) (Nat.le_of_ble_eq_true rfl) (Nat.le_of_ble_eq_true rfl) (goI fun r3 G3 h3 => ?_)
  obtain ⟨rfl, rfl⟩ := h3
  refine gw_aload_n (q := 7) hc dX2_turnsOf_6 rfl rfl xg_0 ?_
  refine gw_iload_n (q := 8) hc dX2_turnsOf_7 rfl rfl xg_1 ?_
  refine gw_iconst (q := 9) hc dX2_turnsOf_8 rfl ?_
  refine gw_callV (q := 12) (bc' := 0) (bs' := 0) (As := [_, _]) hc dX2_turnsOf_9 rfl q1350 mw_X2_its (rc_o hc cE_MO (tg_m hα)) rfl rfl (m_X2_its hα (by omega)) ⟨Nat.le_of_ble_eq_true rfl, Nat.le_of_ble_eq_true rfl⟩ (Nat.le_of_ble_eq_true rfl) (Nat.le_of_ble_eq_true rfl) (Nat.le_of_ble_eq_true rfl) (goI fun r9 G9 h9 => ?_)
  obtain ⟨rfl, rfl⟩ := h9
  refine gw_iadd (q := 13) hc dX2_turnsOf_12 rfl ?_
  exact gw_iret hc dX2_turnsOf_13 ⟨_, rfl, ⟨rfl, rfl⟩⟩

theorem mw_X2_misses : mV "EnergyDiscsModel" yX2_misses cX2_misses 2 (some FieldType.long) 1 := ⟨⟨rfl, by decide +kernel, by decide +kernel, by decide +kernel⟩, q1432, q1433, q82, q1434⟩
set_option maxHeartbeats 4000000 in
theorem m_X2_misses {l : Launch} {D : va_G} {X : Nat → Nat} {b0 : Nat} {α : Nat → Nat} {S P L V Pd : Int → Int} {kn ln : Int} {G : gM} (hα : aN α) {m : Int} {N : Int} (hW : rowW S N) (hm : rI m) : gMet l D X b0 yX2_misses cX2_misses 2 (some FieldType.long) (rmE 3 0 0) [.ref (α 0), .int (iI m)] (tG D α S P kn L V Pd ln G) (eJ (if 0 ≤ m ∧ m < S 7 then msF S m else -1) (tG D α S P kn L V Pd ln G)) := by
  refine gm_start (own := "EnergyDiscsModel") (lv := [some (.ref (α 0)), some (.int (iI m))]) (by decide +kernel) rfl (Nat.le_of_ble_eq_true rfl) rfl (fun p_ e_ s_ m_ args_ below_ meth_ c_ hc hnm => ?_)
  have h7 := rw_7 hW
  have h8 := rw_8 hW
  have h6 := rw_6 hW
  have hst := rw_s hW
  have hL := rw_l hW
  have hM := rw_m hW
  have hTr := rw_t hW
  refine gw_aload_n (q := 1) hc dX2_misses_0 rfl rfl xg_0 ?_
  refine gw_iload_n (q := 2) hc dX2_misses_1 rfl rfl xg_1 ?_
  refine gw_callV (q := 5) (bc' := 0) (bs' := 0) (As := [_]) hc dX2_misses_2 rfl q1305 mw_X2_isMeter (rc_o hc cE_MO (tg_m hα)) rfl rfl (m_X2_isMeter hα (by omega) (by omega)) ⟨Nat.le_of_ble_eq_true rfl, Nat.le_of_ble_eq_true rfl⟩ (Nat.le_of_ble_eq_true rfl) (Nat.le_of_ble_eq_true rfl) (Nat.le_of_ble_eq_true rfl) (goI fun r2 G2 h2 => ?_)
  obtain ⟨b2, rfl⟩ := h2
  refine gw_if_ne  (q := 8) (t := 12) hc dX2_misses_5 rfl (by decide) (by omega) (fun c5 => ?_) (fun c5 => ?_)
  · have hM1 : 0 ≤ m ∧ m < S 7 := by omega
    have hm1 := hM m hM1.1 hM1.2
    have ht1 := hTr m hM1.1 hM1.2
    have htn := tnF_bd hW m hM1.1 hM1.2
    refine gw_aload_n (q := 13) hc dX2_misses_12 rfl rfl xg_0 ?_
    refine gw_get (q := 16) hc dX2_misses_13 rfl cE_MO 0 (by decide) q1252 (fun _ h => h) (tg_m hα) xg_0 ?_
    refine gw_iconst (q := 17) hc dX2_misses_16 rfl ?_
    refine gw_iload_n (q := 18) hc dX2_misses_17 rfl rfl xg_1 ?_
    refine gw_callS (q := 21) (bc' := 0) (bs' := 0) (As := [_, _]) hc dX2_misses_18 rfl q1313 mw_X2_at rfl rfl (m_X2_at) ⟨Nat.le_of_ble_eq_true rfl, Nat.le_of_ble_eq_true rfl⟩ (Nat.le_of_ble_eq_true rfl) (Nat.le_of_ble_eq_true rfl) (Nat.le_of_ble_eq_true rfl) (goI fun r18 G18 h18 => ?_)
    obtain ⟨rfl, rfl⟩ := h18
    refine gw_iconst (q := 22) hc dX2_misses_21 rfl ?_
    refine gw_iadd (q := 23) hc dX2_misses_22 rfl ?_
    refine gw_lald (q := 24) hc dX2_misses_23 rfl (tg_s hα) (by omega) (by omega) ?_
    refine gw_ldc2 (q := 27) hc dX2_misses_24 rfl (v := 6000) q1395 (by decide) ?_
    refine gw_aload_n (q := 28) hc dX2_misses_27 rfl rfl xg_0 ?_
    refine gw_iload_n (q := 29) hc dX2_misses_28 rfl rfl xg_1 ?_
    refine gw_callV (q := 32) (bc' := 0) (bs' := 0) (As := [_]) hc dX2_misses_29 rfl q1435 mw_X2_turnsOf (rc_o hc cE_MO (tg_m hα)) rfl rfl (m_X2_turnsOf hα (by omega)) ⟨Nat.le_of_ble_eq_true rfl, Nat.le_of_ble_eq_true rfl⟩ (Nat.le_of_ble_eq_true rfl) (Nat.le_of_ble_eq_true rfl) (Nat.le_of_ble_eq_true rfl) (goI fun r29 G29 h29 => ?_)
    obtain ⟨rfl, rfl⟩ := h29
    refine gw_i2l (q := 33) hc dX2_misses_32 rfl (by omega) ?_
    refine gw_lmul (q := 34) hc dX2_misses_33 rfl ?_
    refine gw_lsub (q := 35) hc dX2_misses_34 rfl ?_
    refine gw_aload_n (q := 36) hc dX2_misses_35 rfl rfl xg_0 ?_
    refine gw_iload_n (q := 37) hc dX2_misses_36 rfl rfl xg_1 ?_
    refine gw_iconst (q := 38) hc dX2_misses_37 rfl ?_
    refine gw_callV (q := 41) (bc' := 0) (bs' := 0) (As := [_, _]) hc dX2_misses_38 rfl q1350 mw_X2_its (rc_o hc cE_MO (tg_m hα)) rfl rfl (m_X2_its hα (by omega)) ⟨Nat.le_of_ble_eq_true rfl, Nat.le_of_ble_eq_true rfl⟩ (Nat.le_of_ble_eq_true rfl) (Nat.le_of_ble_eq_true rfl) (Nat.le_of_ble_eq_true rfl) (goI fun r38 G38 h38 => ?_)
    obtain ⟨rfl, rfl⟩ := h38
    refine gw_i2l (q := 42) hc dX2_misses_41 rfl (by omega) ?_
    refine gw_lsub (q := 43) hc dX2_misses_42 rfl ?_
    refine gw_ldc2 (q := 46) hc dX2_misses_43 rfl (v := 10000000000) q1439 (by decide) ?_
    refine gw_ladd (q := 47) hc dX2_misses_46 rfl ?_
    exact gw_lret hc dX2_misses_47 ⟨_, rfl, ⟨by rw [if_pos hM1]; simp only [Int.zero_add]; rfl, rfl⟩⟩
  · skip
    refine gw_ldc2 (q := 11) hc dX2_misses_8 rfl (v := -1) q1316 (by decide) ?_
    exact gw_lret hc dX2_misses_11 ⟨_, rfl, ⟨by rw [if_neg (by omega)], rfl⟩⟩

theorem mw_X2_fed : mV "EnergyDiscsModel" yX2_fed cX2_fed 4 (some FieldType.int) 1 := ⟨⟨rfl, by decide +kernel, by decide +kernel, by decide +kernel⟩, q1441, q1442, q82, q1443⟩
set_option maxHeartbeats 4000000 in
theorem m_X2_fed {l : Launch} {D : va_G} {X : Nat → Nat} {b0 : Nat} {α : Nat → Nat} {S P L V Pd : Int → Int} {kn ln : Int} {G : gM} (hα : aN α) {m : Int} {N : Int} (hW : rowW S N) (hm : rI m) : gMet l D X b0 yX2_fed cX2_fed 4 (some FieldType.int) (rmE 3 0 0) [.ref (α 0), .int (iI m)] (tG D α S P kn L V Pd ln G) (eI (fdF S m (S 7).toNat) (tG D α S P kn L V Pd ln G)) := by
  refine gm_start (own := "EnergyDiscsModel") (lv := [some (.ref (α 0)), some (.int (iI m)), none, none]) (by decide +kernel) rfl (Nat.le_of_ble_eq_true rfl) rfl (fun p_ e_ s_ m_ args_ below_ meth_ c_ hc hnm => ?_)
  have h7 := rw_7 hW
  have h8 := rw_8 hW
  have h6 := rw_6 hW
  have hst := rw_s hW
  have hL := rw_l hW
  have hM := rw_m hW
  have hTr := rw_t hW
  have hfd : ∀ k : Nat, (k : Int) ≤ S 7 → -1 ≤ fdF S m k ∧ fdF S m k ≤ 4096 ∧ (fdF S m k < 0 ↔ ¬ (0 ≤ m ∧ m < S 7)) := fun k hk => by
    have := bts_bd12 (f := fun i => thr S i m) (n := k) (by omega)
    unfold fdF
    split <;> omega
  refine gw_aload_n (q := 1) hc dX2_fed_0 rfl rfl xg_0 ?_
  refine gw_iload_n (q := 2) hc dX2_fed_1 rfl rfl xg_1 ?_
  refine gw_callV (q := 5) (bc' := 0) (bs' := 0) (As := [_]) hc dX2_fed_2 rfl q1305 mw_X2_isMeter (rc_o hc cE_MO (tg_m hα)) rfl rfl (m_X2_isMeter hα (by omega) (by omega)) ⟨Nat.le_of_ble_eq_true rfl, Nat.le_of_ble_eq_true rfl⟩ (Nat.le_of_ble_eq_true rfl) (Nat.le_of_ble_eq_true rfl) (Nat.le_of_ble_eq_true rfl) (goI fun r2 G2 h2 => ?_)
  obtain ⟨b2, rfl⟩ := h2
  refine gw_if_eq  (q := 8) (t := 12) hc dX2_fed_5 rfl (by decide) (by omega) (fun c5 => ?_) (fun c5 => ?_)
  · skip
    refine gw_iconst (q := 13) hc dX2_fed_12 rfl ?_
    refine gw_istore_n (q := 14) hc dX2_fed_13 rfl rfl xs_2 (by decide) (n2p xg_1 rfl) ?_
    refine gw_iconst (q := 15) hc dX2_fed_14 rfl ?_
    refine gw_istore_n (q := 16) hc dX2_fed_15 rfl rfl xs_3 (by decide) (n2p xg_2 rfl) ?_
    refine gw_lv (show _ = [some (.ref (α 0)), some (.int (iI m)), some (.int (iI (fdF S m 0))), some (.int (iI ((0 : Nat) : Int)))] from by rw [show fdF S m 0 = -1 from if_neg (by omega)]; rfl) ?_
    refine gw_loop (σ := Nat) (fun x => (x : Int) ≤ S 7 ∧ (fdF S m x < 0 → x = 0)) (fun x => (S 7 - x).toNat) (fun x => tG D α S P kn L V Pd ln G) (fun x => [some (.ref (α 0)), some (.int (iI m)), some (.int (iI (fdF S m x))), some (.int (iI (x : Int)))]) ?_ 0 ⟨h7.1, fun _ => rfl⟩
    rintro k hI16 ih16
    try dsimp only at hI16 ⊢
    have hfk := hfd k (by omega)
    refine gw_iload_n (q := 17) hc dX2_fed_16 rfl rfl xg_3 ?_
    refine gw_aload_n (q := 18) hc dX2_fed_17 rfl rfl xg_0 ?_
    refine gw_bipush (q := 20) hc dX2_fed_18 rfl (by decide) ?_
    refine gw_callV (q := 23) (bc' := 0) (bs' := 0) (As := [_]) hc dX2_fed_20 rfl q1293 mw_X2_num (rc_o hc cE_MO (tg_m hα)) rfl rfl (m_X2_num hα (by omega)) ⟨Nat.le_of_ble_eq_true rfl, Nat.le_of_ble_eq_true rfl⟩ (Nat.le_of_ble_eq_true rfl) (Nat.le_of_ble_eq_true rfl) (Nat.le_of_ble_eq_true rfl) (goI fun r20 G20 h20 => ?_)
    obtain ⟨rfl, rfl⟩ := h20
    refine gw_icmp_ge  (q := 26) (t := 55) hc dX2_fed_23 rfl (by decide) (by omega) (by omega) (fun c23 => ?_) (fun c23 => ?_)
    · skip
      refine gw_iload_n (q := 56) hc dX2_fed_55 rfl rfl xg_2 ?_
      exact gw_iret hc dX2_fed_56 ⟨_, rfl, ⟨by first | (rw [show k = (S 7).toNat by omega]) | (rw [show fdF S m k = -1 from by unfold fdF at *; split; (rename_i h; rw [if_pos h] at *; omega); rfl, show fdF S m (S 7).toNat = -1 from by unfold fdF at *; split; (rename_i h; rw [if_pos h] at *; omega); rfl]), rfl⟩⟩
    · skip
      refine gw_iload_n (q := 27) hc dX2_fed_26 rfl rfl xg_2 ?_
      refine gw_if_lt  (q := 30) (t := 55) hc dX2_fed_27 rfl (by decide) (by omega) (fun c27 => ?_) (fun c27 => ?_)
      · skip
        refine gw_iload_n (q := 56) hc dX2_fed_55 rfl rfl xg_2 ?_
        exact gw_iret hc dX2_fed_56 ⟨_, rfl, ⟨by first | (rw [show k = (S 7).toNat by omega]) | (rw [show fdF S m k = -1 from by unfold fdF at *; split; (rename_i h; rw [if_pos h] at *; omega); rfl, show fdF S m (S 7).toNat = -1 from by unfold fdF at *; split; (rename_i h; rw [if_pos h] at *; omega); rfl]), rfl⟩⟩
      · have hM1 : 0 ≤ m ∧ m < S 7 := by apply Classical.byContradiction; intro h; rw [show fdF S m k = -1 from if_neg h] at *; omega
        refine gw_iload_n (q := 31) hc dX2_fed_30 rfl rfl xg_2 ?_
        refine gw_aload_n (q := 32) hc dX2_fed_31 rfl rfl xg_0 ?_
        refine gw_iload_n (q := 33) hc dX2_fed_32 rfl rfl xg_3 ?_
        refine gw_iload_n (q := 34) hc dX2_fed_33 rfl rfl xg_1 ?_
        refine gw_callV (q := 37) (bc' := 0) (bs' := 0) (As := [_, _]) hc dX2_fed_34 rfl q1387 mw_X2_isThrough (rc_o hc cE_MO (tg_m hα)) rfl rfl (m_X2_isThrough hα hW.1.1 (by omega) (by omega)) ⟨Nat.le_of_ble_eq_true rfl, Nat.le_of_ble_eq_true rfl⟩ (Nat.le_of_ble_eq_true rfl) (Nat.le_of_ble_eq_true rfl) (Nat.le_of_ble_eq_true rfl) (goI fun r34 G34 h34 => ?_)
        obtain ⟨b34, rfl⟩ := h34
        refine gw_if_eq  (q := 40) (t := 46) hc dX2_fed_37 rfl (by decide) (by omega) (fun c37 => ?_) (fun c37 => ?_)
        · skip
          refine gw_iconst (q := 47) hc dX2_fed_46 rfl ?_
          refine gw_ior (q := 48) hc dX2_fed_47 rfl ?_
          rw [show fdF S m k = bts (fun i => thr S i m) k from if_pos (by omega), bts_s0 (f := fun i => thr S i m) (by rcases b34 with h | h; omega; simpa using h.2), show bts (fun i => thr S i m) (k + 1) = fdF S m (k + 1) from (if_pos (by omega)).symm]
          refine gw_istore_n (q := 49) hc dX2_fed_48 rfl rfl xs_2 (by decide) (n2p xg_1 rfl) ?_
          refine gw_iinc (q := 52) hc dX2_fed_49 rfl xg_3 xs_3 (by decide) (n2p xg_2 rfl) ?_
          refine gw_goto (q := 16) hc dX2_fed_52 (by decide) ?_
          exact ih16 (k + 1) ⟨by omega, by have := hfd (k + 1) (by omega); omega⟩ (by omega)
        · skip
          refine gw_iconst (q := 41) hc dX2_fed_40 rfl ?_
          refine gw_iload_n (q := 42) hc dX2_fed_41 rfl rfl xg_3 ?_
          refine gw_ishl (q := 43) hc dX2_fed_42 rfl ?_
          refine gw_goto (q := 47) hc dX2_fed_43 (by decide) ?_
          refine gw_ior (q := 48) hc dX2_fed_47 rfl ?_
          rw [show fdF S m k = bts (fun i => thr S i m) k from if_pos (by omega), bts_s1 (f := fun i => thr S i m) (by omega) (by rcases b34 with h | h; exact h.2; omega), show bts (fun i => thr S i m) (k + 1) = fdF S m (k + 1) from (if_pos (by omega)).symm]
          refine gw_istore_n (q := 49) hc dX2_fed_48 rfl rfl xs_2 (by decide) (n2p xg_1 rfl) ?_
          refine gw_iinc (q := 52) hc dX2_fed_49 rfl xg_3 xs_3 (by decide) (n2p xg_2 rfl) ?_
          refine gw_goto (q := 16) hc dX2_fed_52 (by decide) ?_
          exact ih16 (k + 1) ⟨by omega, by have := hfd (k + 1) (by omega); omega⟩ (by omega)
  · skip
    refine gw_iconst (q := 9) hc dX2_fed_8 rfl ?_
    refine gw_goto (q := 13) hc dX2_fed_9 (by decide) ?_
    refine gw_istore_n (q := 14) hc dX2_fed_13 rfl rfl xs_2 (by decide) (n2p xg_1 rfl) ?_
    refine gw_iconst (q := 15) hc dX2_fed_14 rfl ?_
    refine gw_istore_n (q := 16) hc dX2_fed_15 rfl rfl xs_3 (by decide) (n2p xg_2 rfl) ?_
    refine gw_lv (show _ = [some (.ref (α 0)), some (.int (iI m)), some (.int (iI (fdF S m 0))), some (.int (iI ((0 : Nat) : Int)))] from by rw [show fdF S m 0 = 0 from if_pos (by omega)]; rfl) ?_
    refine gw_loop (σ := Nat) (fun x => (x : Int) ≤ S 7 ∧ (fdF S m x < 0 → x = 0)) (fun x => (S 7 - x).toNat) (fun x => tG D α S P kn L V Pd ln G) (fun x => [some (.ref (α 0)), some (.int (iI m)), some (.int (iI (fdF S m x))), some (.int (iI (x : Int)))]) ?_ 0 ⟨h7.1, fun _ => rfl⟩
    rintro k hI16 ih16
    try dsimp only at hI16 ⊢
    have hfk := hfd k (by omega)
    refine gw_iload_n (q := 17) hc dX2_fed_16 rfl rfl xg_3 ?_
    refine gw_aload_n (q := 18) hc dX2_fed_17 rfl rfl xg_0 ?_
    refine gw_bipush (q := 20) hc dX2_fed_18 rfl (by decide) ?_
    refine gw_callV (q := 23) (bc' := 0) (bs' := 0) (As := [_]) hc dX2_fed_20 rfl q1293 mw_X2_num (rc_o hc cE_MO (tg_m hα)) rfl rfl (m_X2_num hα (by omega)) ⟨Nat.le_of_ble_eq_true rfl, Nat.le_of_ble_eq_true rfl⟩ (Nat.le_of_ble_eq_true rfl) (Nat.le_of_ble_eq_true rfl) (Nat.le_of_ble_eq_true rfl) (goI fun r20 G20 h20 => ?_)
    obtain ⟨rfl, rfl⟩ := h20
    refine gw_icmp_ge  (q := 26) (t := 55) hc dX2_fed_23 rfl (by decide) (by omega) (by omega) (fun c23 => ?_) (fun c23 => ?_)
    · skip
      refine gw_iload_n (q := 56) hc dX2_fed_55 rfl rfl xg_2 ?_
      exact gw_iret hc dX2_fed_56 ⟨_, rfl, ⟨by first | (rw [show k = (S 7).toNat by omega]) | (rw [show fdF S m k = -1 from by unfold fdF at *; split; (rename_i h; rw [if_pos h] at *; omega); rfl, show fdF S m (S 7).toNat = -1 from by unfold fdF at *; split; (rename_i h; rw [if_pos h] at *; omega); rfl]), rfl⟩⟩
    · skip
      refine gw_iload_n (q := 27) hc dX2_fed_26 rfl rfl xg_2 ?_
      refine gw_if_lt  (q := 30) (t := 55) hc dX2_fed_27 rfl (by decide) (by omega) (fun c27 => ?_) (fun c27 => ?_)
      · skip
        refine gw_iload_n (q := 56) hc dX2_fed_55 rfl rfl xg_2 ?_
        exact gw_iret hc dX2_fed_56 ⟨_, rfl, ⟨by first | (rw [show k = (S 7).toNat by omega]) | (rw [show fdF S m k = -1 from by unfold fdF at *; split; (rename_i h; rw [if_pos h] at *; omega); rfl, show fdF S m (S 7).toNat = -1 from by unfold fdF at *; split; (rename_i h; rw [if_pos h] at *; omega); rfl]), rfl⟩⟩
      · have hM1 : 0 ≤ m ∧ m < S 7 := by apply Classical.byContradiction; intro h; rw [show fdF S m k = -1 from if_neg h] at *; omega
        refine gw_iload_n (q := 31) hc dX2_fed_30 rfl rfl xg_2 ?_
        refine gw_aload_n (q := 32) hc dX2_fed_31 rfl rfl xg_0 ?_
        refine gw_iload_n (q := 33) hc dX2_fed_32 rfl rfl xg_3 ?_
        refine gw_iload_n (q := 34) hc dX2_fed_33 rfl rfl xg_1 ?_
        refine gw_callV (q := 37) (bc' := 0) (bs' := 0) (As := [_, _]) hc dX2_fed_34 rfl q1387 mw_X2_isThrough (rc_o hc cE_MO (tg_m hα)) rfl rfl (m_X2_isThrough hα hW.1.1 (by omega) (by omega)) ⟨Nat.le_of_ble_eq_true rfl, Nat.le_of_ble_eq_true rfl⟩ (Nat.le_of_ble_eq_true rfl) (Nat.le_of_ble_eq_true rfl) (Nat.le_of_ble_eq_true rfl) (goI fun r34 G34 h34 => ?_)
        obtain ⟨b34, rfl⟩ := h34
        refine gw_if_eq  (q := 40) (t := 46) hc dX2_fed_37 rfl (by decide) (by omega) (fun c37 => ?_) (fun c37 => ?_)
        · skip
          refine gw_iconst (q := 47) hc dX2_fed_46 rfl ?_
          refine gw_ior (q := 48) hc dX2_fed_47 rfl ?_
          rw [show fdF S m k = bts (fun i => thr S i m) k from if_pos (by omega), bts_s0 (f := fun i => thr S i m) (by rcases b34 with h | h; omega; simpa using h.2), show bts (fun i => thr S i m) (k + 1) = fdF S m (k + 1) from (if_pos (by omega)).symm]
          refine gw_istore_n (q := 49) hc dX2_fed_48 rfl rfl xs_2 (by decide) (n2p xg_1 rfl) ?_
          refine gw_iinc (q := 52) hc dX2_fed_49 rfl xg_3 xs_3 (by decide) (n2p xg_2 rfl) ?_
          refine gw_goto (q := 16) hc dX2_fed_52 (by decide) ?_
          exact ih16 (k + 1) ⟨by omega, by have := hfd (k + 1) (by omega); omega⟩ (by omega)
        · skip
          refine gw_iconst (q := 41) hc dX2_fed_40 rfl ?_
          refine gw_iload_n (q := 42) hc dX2_fed_41 rfl rfl xg_3 ?_
          refine gw_ishl (q := 43) hc dX2_fed_42 rfl ?_
          refine gw_goto (q := 47) hc dX2_fed_43 (by decide) ?_
          refine gw_ior (q := 48) hc dX2_fed_47 rfl ?_
          rw [show fdF S m k = bts (fun i => thr S i m) k from if_pos (by omega), bts_s1 (f := fun i => thr S i m) (by omega) (by rcases b34 with h | h; exact h.2; omega), show bts (fun i => thr S i m) (k + 1) = fdF S m (k + 1) from (if_pos (by omega)).symm]
          refine gw_istore_n (q := 49) hc dX2_fed_48 rfl rfl xs_2 (by decide) (n2p xg_1 rfl) ?_
          refine gw_iinc (q := 52) hc dX2_fed_49 rfl xg_3 xs_3 (by decide) (n2p xg_2 rfl) ?_
          refine gw_goto (q := 16) hc dX2_fed_52 (by decide) ?_
          exact ih16 (k + 1) ⟨by omega, by have := hfd (k + 1) (by omega); omega⟩ (by omega)

theorem mw_X2_ofAll : mV "EnergyDiscsModel" yX2_ofAll cX2_ofAll 4 (some FieldType.int) 1 := ⟨⟨rfl, by decide +kernel, by decide +kernel, by decide +kernel⟩, q1450, qs63, q82, q1451⟩
set_option maxHeartbeats 4000000 in
theorem m_X2_ofAll {l : Launch} {D : va_G} {X : Nat → Nat} {b0 : Nat} {α : Nat → Nat} {S P L V Pd : Int → Int} {kn ln : Int} {G : gM} (hα : aN α) {x0 : Int} {N : Int} (hW : rowW S N) (hx : 4 ≤ x0 ∧ x0 ≤ 6) : gMet l D X b0 yX2_ofAll cX2_ofAll 4 (some FieldType.int) (rmE 3 0 0) [.ref (α 0), .int (iI x0)] (tG D α S P kn L V Pd ln G) (eI (alF S x0) (tG D α S P kn L V Pd ln G)) := by
  refine gm_start (own := "EnergyDiscsModel") (lv := [some (.ref (α 0)), some (.int (iI x0)), none, none]) (by decide +kernel) rfl (Nat.le_of_ble_eq_true rfl) rfl (fun p_ e_ s_ m_ args_ below_ meth_ c_ hc hnm => ?_)
  have h7 := rw_7 hW
  have h8 := rw_8 hW
  have h6 := rw_6 hW
  have hst := rw_s hW
  have hL := rw_l hW
  have hM := rw_m hW
  have hTr := rw_t hW
  refine gw_iconst (q := 1) hc dX2_ofAll_0 rfl ?_
  refine gw_istore_n (q := 2) hc dX2_ofAll_1 rfl rfl xs_2 (by decide) (n2p xg_1 rfl) ?_
  refine gw_iconst (q := 3) hc dX2_ofAll_2 rfl ?_
  refine gw_istore_n (q := 4) hc dX2_ofAll_3 rfl rfl xs_3 (by decide) (n2p xg_2 rfl) ?_
  refine gw_lv (show _ = [some (.ref (α 0)), some (.int (iI x0)), some (.int (iI (al1 S x0 0))), some (.int (iI ((0 : Nat) : Int)))] from by rw [show al1 S x0 0 = 0 from by unfold al1; split <;> rfl]; rfl) ?_
  refine gw_loop (σ := Nat) (fun x => (x : Int) ≤ S 8) (fun x => (S 8 - x).toNat) (fun x => tG D α S P kn L V Pd ln G) (fun x => [some (.ref (α 0)), some (.int (iI x0)), some (.int (iI (al1 S x0 x))), some (.int (iI (x : Int)))]) ?_ 0 h8.1
  rintro k hI4 ih4
  try dsimp only at hI4 ⊢
  refine gw_iload_n (q := 5) hc dX2_ofAll_4 rfl rfl xg_3 ?_
  refine gw_aload_n (q := 6) hc dX2_ofAll_5 rfl rfl xg_0 ?_
  refine gw_bipush (q := 8) hc dX2_ofAll_6 rfl (by decide) ?_
  refine gw_callV (q := 11) (bc' := 0) (bs' := 0) (As := [_]) hc dX2_ofAll_8 rfl q1293 mw_X2_num (rc_o hc cE_MO (tg_m hα)) rfl rfl (m_X2_num hα (by omega)) ⟨Nat.le_of_ble_eq_true rfl, Nat.le_of_ble_eq_true rfl⟩ (Nat.le_of_ble_eq_true rfl) (Nat.le_of_ble_eq_true rfl) (Nat.le_of_ble_eq_true rfl) (goI fun r8 G8 h8 => ?_)
  obtain ⟨rfl, rfl⟩ := h8
  refine gw_icmp_ge  (q := 14) (t := 53) hc dX2_ofAll_11 rfl (by decide) (by omega) (by omega) (fun c11 => ?_) (fun c11 => ?_)
  · skip
    refine gw_iconst (q := 54) hc dX2_ofAll_53 rfl ?_
    refine gw_istore_n (q := 55) hc dX2_ofAll_54 rfl rfl xs_3 (by decide) (n2p xg_2 rfl) ?_
    refine gw_lv (show _ = [some (.ref (α 0)), some (.int (iI x0)), some (.int (iI (al2 S x0 0))), some (.int (iI ((0 : Nat) : Int)))] from by rw [show al2 S x0 0 = al1 S x0 k from by unfold al2 al1; (repeat' split) <;> first | omega | rfl | rw [show k = (S 8).toNat by omega]]; rfl) ?_
    refine gw_loop (σ := Nat) (fun x => (x : Int) ≤ S 7) (fun x => (S 7 - x).toNat) (fun x => tG D α S P kn L V Pd ln G) (fun x => [some (.ref (α 0)), some (.int (iI x0)), some (.int (iI (al2 S x0 x))), some (.int (iI (x : Int)))]) ?_ 0 h7.1
    rintro n hI55 ih55
    try dsimp only at hI55 ⊢
    refine gw_iload_n (q := 56) hc dX2_ofAll_55 rfl rfl xg_3 ?_
    refine gw_aload_n (q := 57) hc dX2_ofAll_56 rfl rfl xg_0 ?_
    refine gw_bipush (q := 59) hc dX2_ofAll_57 rfl (by decide) ?_
    refine gw_callV (q := 62) (bc' := 0) (bs' := 0) (As := [_]) hc dX2_ofAll_59 rfl q1293 mw_X2_num (rc_o hc cE_MO (tg_m hα)) rfl rfl (m_X2_num hα (by omega)) ⟨Nat.le_of_ble_eq_true rfl, Nat.le_of_ble_eq_true rfl⟩ (Nat.le_of_ble_eq_true rfl) (Nat.le_of_ble_eq_true rfl) (Nat.le_of_ble_eq_true rfl) (goI fun r59 G59 h59 => ?_)
    obtain ⟨rfl, rfl⟩ := h59
    refine gw_icmp_ge  (q := 65) (t := 103) hc dX2_ofAll_62 rfl (by decide) (by omega) (by omega) (fun c62 => ?_) (fun c62 => ?_)
    · skip
      refine gw_iload_n (q := 104) hc dX2_ofAll_103 rfl rfl xg_2 ?_
      exact gw_iret hc dX2_ofAll_104 ⟨_, rfl, ⟨by unfold alF al2 al1; (repeat' split) <;> first | omega | rfl | rw [show n = (S 7).toNat by omega], rfl⟩⟩
    · skip
      refine gw_iload_n (q := 66) hc dX2_ofAll_65 rfl rfl xg_1 ?_
      refine gw_iconst (q := 67) hc dX2_ofAll_66 rfl ?_
      refine gw_icmp_le  (q := 70) (t := 103) hc dX2_ofAll_67 rfl (by decide) (by omega) (by omega) (fun c67 => ?_) (fun c67 => ?_)
      · skip
        refine gw_iload_n (q := 104) hc dX2_ofAll_103 rfl rfl xg_2 ?_
        exact gw_iret hc dX2_ofAll_104 ⟨_, rfl, ⟨by unfold alF al2 al1; (repeat' split) <;> first | omega | rfl | rw [show n = (S 7).toNat by omega], rfl⟩⟩
      · have hMn := hM n (by omega) (by omega)
        refine gw_iload_n (q := 71) hc dX2_ofAll_70 rfl rfl xg_1 ?_
        refine gw_iconst (q := 72) hc dX2_ofAll_71 rfl ?_
        refine gw_icmp_ne  (q := 75) (t := 89) hc dX2_ofAll_72 rfl (by decide) (by omega) (by omega) (fun c72 => ?_) (fun c72 => ?_)
        · skip
          refine gw_iload_n (q := 90) hc dX2_ofAll_89 rfl rfl xg_2 ?_
          refine gw_aload_n (q := 91) hc dX2_ofAll_90 rfl rfl xg_0 ?_
          refine gw_iload_n (q := 92) hc dX2_ofAll_91 rfl rfl xg_3 ?_
          refine gw_callV (q := 95) (bc' := 0) (bs' := 0) (As := [_]) hc dX2_ofAll_92 rfl q1435 mw_X2_turnsOf (rc_o hc cE_MO (tg_m hα)) rfl rfl (m_X2_turnsOf hα (by omega)) ⟨Nat.le_of_ble_eq_true rfl, Nat.le_of_ble_eq_true rfl⟩ (Nat.le_of_ble_eq_true rfl) (Nat.le_of_ble_eq_true rfl) (Nat.le_of_ble_eq_true rfl) (goI fun r92 G92 h92 => ?_)
          obtain ⟨rfl, rfl⟩ := h92
          refine gw_iadd (q := 96) hc dX2_ofAll_95 rfl ?_
          rw [show al2 S x0 n + tnF S n = al2 S x0 (n + 1) from by unfold al2; rw [if_neg (by omega), if_neg (by omega), if_neg (by omega), if_neg (by omega)]; rfl]
          refine gw_istore_n (q := 97) hc dX2_ofAll_96 rfl rfl xs_2 (by decide) (n2p xg_1 rfl) ?_
          refine gw_iinc (q := 100) hc dX2_ofAll_97 rfl xg_3 xs_3 (by decide) (n2p xg_2 rfl) ?_
          refine gw_goto (q := 55) hc dX2_ofAll_100 (by decide) ?_
          exact ih55 (n + 1) (by omega) (by omega)
        · skip
          refine gw_iload_n (q := 76) hc dX2_ofAll_75 rfl rfl xg_2 ?_
          refine gw_aload_n (q := 77) hc dX2_ofAll_76 rfl rfl xg_0 ?_
          refine gw_iload_n (q := 78) hc dX2_ofAll_77 rfl rfl xg_3 ?_
          refine gw_bipush (q := 80) hc dX2_ofAll_78 rfl (by decide) ?_
          refine gw_callV (q := 83) (bc' := 0) (bs' := 0) (As := [_, _]) hc dX2_ofAll_80 rfl q1350 mw_X2_its (rc_o hc cE_MO (tg_m hα)) rfl rfl (m_X2_its hα (by omega)) ⟨Nat.le_of_ble_eq_true rfl, Nat.le_of_ble_eq_true rfl⟩ (Nat.le_of_ble_eq_true rfl) (Nat.le_of_ble_eq_true rfl) (Nat.le_of_ble_eq_true rfl) (goI fun r80 G80 h80 => ?_)
          obtain ⟨rfl, rfl⟩ := h80
          refine gw_iload_n (q := 84) hc dX2_ofAll_83 rfl rfl xg_3 ?_
          refine gw_ishl (q := 85) hc dX2_ofAll_84 rfl ?_
          refine gw_ior (q := 86) hc dX2_ofAll_85 rfl ?_
          refine gw_goto (q := 96) hc dX2_ofAll_86 (by decide) ?_
          rw [show al2 S x0 n = bts (fun k => decide (S (11 + 13 * k + 7) = 1)) n from by unfold al2; rw [if_neg (by omega), if_pos (by omega)], bts_sb (f := fun k => decide (S (11 + 13 * k + 7) = 1)) (by omega) (by simp only [decide_eq_true_eq, decide_eq_false_iff_not]; omega), show bts (fun k => decide (S (11 + 13 * k + 7) = 1)) (n + 1) = al2 S x0 (n + 1) from by unfold al2; rw [if_neg (by omega), if_pos (by omega)]]
          refine gw_istore_n (q := 97) hc dX2_ofAll_96 rfl rfl xs_2 (by decide) (n2p xg_1 rfl) ?_
          refine gw_iinc (q := 100) hc dX2_ofAll_97 rfl xg_3 xs_3 (by decide) (n2p xg_2 rfl) ?_
          refine gw_goto (q := 55) hc dX2_ofAll_100 (by decide) ?_
          exact ih55 (n + 1) (by omega) (by omega)
  · skip
    refine gw_iload_n (q := 15) hc dX2_ofAll_14 rfl rfl xg_1 ?_
    refine gw_iconst (q := 16) hc dX2_ofAll_15 rfl ?_
    refine gw_icmp_ne  (q := 19) (t := 53) hc dX2_ofAll_16 rfl (by decide) (by omega) (by omega) (fun c16 => ?_) (fun c16 => ?_)
    · skip
      refine gw_iconst (q := 54) hc dX2_ofAll_53 rfl ?_
      refine gw_istore_n (q := 55) hc dX2_ofAll_54 rfl rfl xs_3 (by decide) (n2p xg_2 rfl) ?_
      refine gw_lv (show _ = [some (.ref (α 0)), some (.int (iI x0)), some (.int (iI (al2 S x0 0))), some (.int (iI ((0 : Nat) : Int)))] from by rw [show al2 S x0 0 = al1 S x0 k from by unfold al2 al1; (repeat' split) <;> first | omega | rfl | rw [show k = (S 8).toNat by omega]]; rfl) ?_
      refine gw_loop (σ := Nat) (fun x => (x : Int) ≤ S 7) (fun x => (S 7 - x).toNat) (fun x => tG D α S P kn L V Pd ln G) (fun x => [some (.ref (α 0)), some (.int (iI x0)), some (.int (iI (al2 S x0 x))), some (.int (iI (x : Int)))]) ?_ 0 h7.1
      rintro n hI55 ih55
      try dsimp only at hI55 ⊢
      refine gw_iload_n (q := 56) hc dX2_ofAll_55 rfl rfl xg_3 ?_
      refine gw_aload_n (q := 57) hc dX2_ofAll_56 rfl rfl xg_0 ?_
      refine gw_bipush (q := 59) hc dX2_ofAll_57 rfl (by decide) ?_
      refine gw_callV (q := 62) (bc' := 0) (bs' := 0) (As := [_]) hc dX2_ofAll_59 rfl q1293 mw_X2_num (rc_o hc cE_MO (tg_m hα)) rfl rfl (m_X2_num hα (by omega)) ⟨Nat.le_of_ble_eq_true rfl, Nat.le_of_ble_eq_true rfl⟩ (Nat.le_of_ble_eq_true rfl) (Nat.le_of_ble_eq_true rfl) (Nat.le_of_ble_eq_true rfl) (goI fun r59 G59 h59 => ?_)
      obtain ⟨rfl, rfl⟩ := h59
      refine gw_icmp_ge  (q := 65) (t := 103) hc dX2_ofAll_62 rfl (by decide) (by omega) (by omega) (fun c62 => ?_) (fun c62 => ?_)
      · skip
        refine gw_iload_n (q := 104) hc dX2_ofAll_103 rfl rfl xg_2 ?_
        exact gw_iret hc dX2_ofAll_104 ⟨_, rfl, ⟨by unfold alF al2 al1; (repeat' split) <;> first | omega | rfl | rw [show n = (S 7).toNat by omega], rfl⟩⟩
      · skip
        refine gw_iload_n (q := 66) hc dX2_ofAll_65 rfl rfl xg_1 ?_
        refine gw_iconst (q := 67) hc dX2_ofAll_66 rfl ?_
        refine gw_icmp_le  (q := 70) (t := 103) hc dX2_ofAll_67 rfl (by decide) (by omega) (by omega) (fun c67 => ?_) (fun c67 => ?_)
        · skip
          refine gw_iload_n (q := 104) hc dX2_ofAll_103 rfl rfl xg_2 ?_
          exact gw_iret hc dX2_ofAll_104 ⟨_, rfl, ⟨by unfold alF al2 al1; (repeat' split) <;> first | omega | rfl | rw [show n = (S 7).toNat by omega], rfl⟩⟩
        · have hMn := hM n (by omega) (by omega)
          refine gw_iload_n (q := 71) hc dX2_ofAll_70 rfl rfl xg_1 ?_
          refine gw_iconst (q := 72) hc dX2_ofAll_71 rfl ?_
          refine gw_icmp_ne  (q := 75) (t := 89) hc dX2_ofAll_72 rfl (by decide) (by omega) (by omega) (fun c72 => ?_) (fun c72 => ?_)
          · skip
            refine gw_iload_n (q := 90) hc dX2_ofAll_89 rfl rfl xg_2 ?_
            refine gw_aload_n (q := 91) hc dX2_ofAll_90 rfl rfl xg_0 ?_
            refine gw_iload_n (q := 92) hc dX2_ofAll_91 rfl rfl xg_3 ?_
            refine gw_callV (q := 95) (bc' := 0) (bs' := 0) (As := [_]) hc dX2_ofAll_92 rfl q1435 mw_X2_turnsOf (rc_o hc cE_MO (tg_m hα)) rfl rfl (m_X2_turnsOf hα (by omega)) ⟨Nat.le_of_ble_eq_true rfl, Nat.le_of_ble_eq_true rfl⟩ (Nat.le_of_ble_eq_true rfl) (Nat.le_of_ble_eq_true rfl) (Nat.le_of_ble_eq_true rfl) (goI fun r92 G92 h92 => ?_)
            obtain ⟨rfl, rfl⟩ := h92
            refine gw_iadd (q := 96) hc dX2_ofAll_95 rfl ?_
            rw [show al2 S x0 n + tnF S n = al2 S x0 (n + 1) from by unfold al2; rw [if_neg (by omega), if_neg (by omega), if_neg (by omega), if_neg (by omega)]; rfl]
            refine gw_istore_n (q := 97) hc dX2_ofAll_96 rfl rfl xs_2 (by decide) (n2p xg_1 rfl) ?_
            refine gw_iinc (q := 100) hc dX2_ofAll_97 rfl xg_3 xs_3 (by decide) (n2p xg_2 rfl) ?_
            refine gw_goto (q := 55) hc dX2_ofAll_100 (by decide) ?_
            exact ih55 (n + 1) (by omega) (by omega)
          · skip
            refine gw_iload_n (q := 76) hc dX2_ofAll_75 rfl rfl xg_2 ?_
            refine gw_aload_n (q := 77) hc dX2_ofAll_76 rfl rfl xg_0 ?_
            refine gw_iload_n (q := 78) hc dX2_ofAll_77 rfl rfl xg_3 ?_
            refine gw_bipush (q := 80) hc dX2_ofAll_78 rfl (by decide) ?_
            refine gw_callV (q := 83) (bc' := 0) (bs' := 0) (As := [_, _]) hc dX2_ofAll_80 rfl q1350 mw_X2_its (rc_o hc cE_MO (tg_m hα)) rfl rfl (m_X2_its hα (by omega)) ⟨Nat.le_of_ble_eq_true rfl, Nat.le_of_ble_eq_true rfl⟩ (Nat.le_of_ble_eq_true rfl) (Nat.le_of_ble_eq_true rfl) (Nat.le_of_ble_eq_true rfl) (goI fun r80 G80 h80 => ?_)
            obtain ⟨rfl, rfl⟩ := h80
            refine gw_iload_n (q := 84) hc dX2_ofAll_83 rfl rfl xg_3 ?_
            refine gw_ishl (q := 85) hc dX2_ofAll_84 rfl ?_
            refine gw_ior (q := 86) hc dX2_ofAll_85 rfl ?_
            refine gw_goto (q := 96) hc dX2_ofAll_86 (by decide) ?_
            rw [show al2 S x0 n = bts (fun k => decide (S (11 + 13 * k + 7) = 1)) n from by unfold al2; rw [if_neg (by omega), if_pos (by omega)], bts_sb (f := fun k => decide (S (11 + 13 * k + 7) = 1)) (by omega) (by simp only [decide_eq_true_eq, decide_eq_false_iff_not]; omega), show bts (fun k => decide (S (11 + 13 * k + 7) = 1)) (n + 1) = al2 S x0 (n + 1) from by unfold al2; rw [if_neg (by omega), if_pos (by omega)]]
            refine gw_istore_n (q := 97) hc dX2_ofAll_96 rfl rfl xs_2 (by decide) (n2p xg_1 rfl) ?_
            refine gw_iinc (q := 100) hc dX2_ofAll_97 rfl xg_3 xs_3 (by decide) (n2p xg_2 rfl) ?_
            refine gw_goto (q := 55) hc dX2_ofAll_100 (by decide) ?_
            exact ih55 (n + 1) (by omega) (by omega)
    · have hLk := hL k (by omega) (by omega)
      refine gw_iload_n (q := 20) hc dX2_ofAll_19 rfl rfl xg_2 ?_
      refine gw_aload_n (q := 21) hc dX2_ofAll_20 rfl rfl xg_0 ?_
      refine gw_get (q := 24) hc dX2_ofAll_21 rfl cE_MO 0 (by decide) q1252 (fun _ h => h) (tg_m hα) xg_0 ?_
      refine gw_bipush (q := 26) hc dX2_ofAll_24 rfl (by decide) ?_
      refine gw_iconst (q := 27) hc dX2_ofAll_26 rfl ?_
      refine gw_iload_n (q := 28) hc dX2_ofAll_27 rfl rfl xg_3 ?_
      refine gw_imul (q := 29) hc dX2_ofAll_28 rfl ?_
      refine gw_iadd (q := 30) hc dX2_ofAll_29 rfl ?_
      refine gw_iconst (q := 31) hc dX2_ofAll_30 rfl ?_
      refine gw_iadd (q := 32) hc dX2_ofAll_31 rfl ?_
      refine gw_lald (q := 33) hc dX2_ofAll_32 rfl (tg_s hα) (by omega) (by omega) ?_
      refine gw_lconst (q := 34) hc dX2_ofAll_33 rfl (v := 1) rfl ?_
      refine gw_lcmp (q := 35) hc dX2_ofAll_34 rfl (by omega) (by omega) ?_
      refine gw_ifc_ne  (q := 38) (t := 44) hc dX2_ofAll_35 rfl (by decide)  (fun c35 => ?_) (fun c35 => ?_)
      · skip
        refine gw_iconst (q := 45) hc dX2_ofAll_44 rfl ?_
        refine gw_ior (q := 46) hc dX2_ofAll_45 rfl ?_
        rw [show al1 S x0 k = bts (fun j => decide (S (102 + 3 * j + 2) = 1)) k from if_pos c16, bts_s0 (f := fun j => decide (S (102 + 3 * j + 2) = 1)) (by simpa using c35), show bts (fun j => decide (S (102 + 3 * j + 2) = 1)) (k + 1) = al1 S x0 (k + 1) from (if_pos c16).symm]
        refine gw_istore_n (q := 47) hc dX2_ofAll_46 rfl rfl xs_2 (by decide) (n2p xg_1 rfl) ?_
        refine gw_iinc (q := 50) hc dX2_ofAll_47 rfl xg_3 xs_3 (by decide) (n2p xg_2 rfl) ?_
        refine gw_goto (q := 4) hc dX2_ofAll_50 (by decide) ?_
        exact ih4 (k + 1) (by omega) (by omega)
      · skip
        refine gw_iconst (q := 39) hc dX2_ofAll_38 rfl ?_
        refine gw_iload_n (q := 40) hc dX2_ofAll_39 rfl rfl xg_3 ?_
        refine gw_ishl (q := 41) hc dX2_ofAll_40 rfl ?_
        refine gw_goto (q := 45) hc dX2_ofAll_41 (by decide) ?_
        refine gw_ior (q := 46) hc dX2_ofAll_45 rfl ?_
        rw [show al1 S x0 k = bts (fun j => decide (S (102 + 3 * j + 2) = 1)) k from if_pos c16, bts_s1 (f := fun j => decide (S (102 + 3 * j + 2) = 1)) (by omega) (by simpa using c35), show bts (fun j => decide (S (102 + 3 * j + 2) = 1)) (k + 1) = al1 S x0 (k + 1) from (if_pos c16).symm]
        refine gw_istore_n (q := 47) hc dX2_ofAll_46 rfl rfl xs_2 (by decide) (n2p xg_1 rfl) ?_
        refine gw_iinc (q := 50) hc dX2_ofAll_47 rfl xg_3 xs_3 (by decide) (n2p xg_2 rfl) ?_
        refine gw_goto (q := 4) hc dX2_ofAll_50 (by decide) ?_
        exact ih4 (k + 1) (by omega) (by omega)

theorem mw_X2_count : mV "EnergyDiscsModel" yX2_count cX2_count 2 (some FieldType.int) 1 := ⟨⟨rfl, by decide +kernel, by decide +kernel, by decide +kernel⟩, q1445, q1446, q82, q1447⟩
set_option maxHeartbeats 4000000 in
theorem m_X2_count {l : Launch} {D : va_G} {X : Nat → Nat} {b0 : Nat} {α : Nat → Nat} {S P L V Pd : Int → Int} {kn ln : Int} {G : gM} (hα : aN α) {x : Int} {N : Int} (hW : rowW S N) (hx : rI x) (hln : 0 ≤ ln ∧ ln ≤ 80) : gMet l D X b0 yX2_count cX2_count 2 (some FieldType.int) (rmE 4 0 0) [.ref (α 0), .int (iI x)] (tG D α S P kn L V Pd ln G) (eI (cntF S ln kn x) (tG D α S P kn L V Pd ln G)) := by
  refine gm_start (own := "EnergyDiscsModel") (lv := [some (.ref (α 0)), some (.int (iI x))]) (by decide +kernel) rfl (Nat.le_of_ble_eq_true rfl) rfl (fun p_ e_ s_ m_ args_ below_ meth_ c_ hc hnm => ?_)
  have h7 := rw_7 hW
  have h8 := rw_8 hW
  have h6 := rw_6 hW
  have hst := rw_s hW
  have hL := rw_l hW
  have hM := rw_m hW
  have hTr := rw_t hW
  refine gw_iload_n (q := 1) hc dX2_count_0 rfl rfl xg_1 ?_
  rcases (by omega : x < 0 ∨ x = 0 ∨ x = 1 ∨ x = 2 ∨ x = 3 ∨ x = 4 ∨ x = 5 ∨ x = 6 ∨ x = 7 ∨ x = 8 ∨ x = 9 ∨ x = 10 ∨ x = 11 ∨ x = 12 ∨ x = 13 ∨ x = 14 ∨ x = 15 ∨ x = 16 ∨ 16 < x) with w1 | w1 | w1 | w1 | w1 | w1 | w1 | w1 | w1 | w1 | w1 | w1 | w1 | w1 | w1 | w1 | w1 | w1 | w1
  · refine gw_tableOut (t := 149) hc dX2_count_1 (by omega) (Or.inl w1) (by decide) ?_
    refine gw_iload_n (q := 150) hc dX2_count_149 rfl rfl xg_1 ?_
    refine gw_bipush (q := 152) hc dX2_count_150 rfl (by decide) ?_
    refine gw_bipush (q := 154) hc dX2_count_152 rfl (by decide) ?_
    refine gw_callS (q := 157) (bc' := 0) (bs' := 0) (As := [_, _, _]) hc dX2_count_154 rfl q1280 mw_X2_in rfl rfl (m_X2_in (by omega) (by omega) (by omega)) ⟨Nat.le_of_ble_eq_true rfl, Nat.le_of_ble_eq_true rfl⟩ (Nat.le_of_ble_eq_true rfl) (Nat.le_of_ble_eq_true rfl) (Nat.le_of_ble_eq_true rfl) (goI fun r154 G154 h154 => ?_)
    obtain ⟨b154, rfl⟩ := h154
    refine gw_if_eq  (q := 160) (t := 171) hc dX2_count_157 rfl (by decide) (by omega) (fun c157 => ?_) (fun c157 => ?_)
    · skip
      refine gw_bipush (q := 173) hc dX2_count_171 rfl (by decide) ?_
      exact gw_iret hc dX2_count_173 ⟨_, rfl, ⟨by unfold cntF; (repeat' split) <;> first | omega | rfl | exact congrArg S (by omega), rfl⟩⟩
    · skip
      refine gw_aload_n (q := 161) hc dX2_count_160 rfl rfl xg_0 ?_
      refine gw_iload_n (q := 162) hc dX2_count_161 rfl rfl xg_1 ?_
      refine gw_bipush (q := 164) hc dX2_count_162 rfl (by decide) ?_
      refine gw_isub (q := 165) hc dX2_count_164 rfl ?_
      refine gw_callV (q := 168) (bc' := 0) (bs' := 0) (As := [_]) hc dX2_count_165 rfl q1293 mw_X2_num (rc_o hc cE_MO (tg_m hα)) rfl rfl (m_X2_num hα (by omega)) ⟨Nat.le_of_ble_eq_true rfl, Nat.le_of_ble_eq_true rfl⟩ (Nat.le_of_ble_eq_true rfl) (Nat.le_of_ble_eq_true rfl) (Nat.le_of_ble_eq_true rfl) (goI fun r165 G165 h165 => ?_)
      obtain ⟨rfl, rfl⟩ := h165
      refine gw_goto (q := 173) hc dX2_count_168 (by decide) ?_
      exact gw_iret hc dX2_count_173 ⟨_, rfl, ⟨by unfold cntF; (repeat' split) <;> first | omega | rfl | exact congrArg S (by omega), rfl⟩⟩
  · refine gw_tableIn (t := 84) hc dX2_count_1 (by omega) (by omega) (by rw [w1]; rfl) (by decide) ?_
    refine gw_aload_n (q := 85) hc dX2_count_84 rfl rfl xg_0 ?_
    refine gw_bipush (q := 87) hc dX2_count_85 rfl (by decide) ?_
    refine gw_callV (q := 90) (bc' := 0) (bs' := 0) (As := [_]) hc dX2_count_87 rfl q1293 mw_X2_num (rc_o hc cE_MO (tg_m hα)) rfl rfl (m_X2_num hα (by omega)) ⟨Nat.le_of_ble_eq_true rfl, Nat.le_of_ble_eq_true rfl⟩ (Nat.le_of_ble_eq_true rfl) (Nat.le_of_ble_eq_true rfl) (Nat.le_of_ble_eq_true rfl) (goI fun r87 G87 h87 => ?_)
    obtain ⟨rfl, rfl⟩ := h87
    exact gw_iret hc dX2_count_90 ⟨_, rfl, ⟨by unfold cntF; (repeat' split) <;> first | omega | rfl | exact congrArg S (by omega), rfl⟩⟩
  · refine gw_tableIn (t := 91) hc dX2_count_1 (by omega) (by omega) (by rw [w1]; rfl) (by decide) ?_
    refine gw_aload_n (q := 92) hc dX2_count_91 rfl rfl xg_0 ?_
    refine gw_get (q := 95) hc dX2_count_92 rfl cE_MO 0 (by decide) q1252 (fun _ h => h) (tg_m hα) xg_0 ?_
    refine gw_bipush (q := 97) hc dX2_count_95 rfl (by decide) ?_
    refine gw_lald (q := 98) hc dX2_count_97 rfl (tg_s hα) (by omega) (by omega) ?_
    refine gw_callS (q := 101) (bc' := 0) (bs' := 0) (As := [_]) hc dX2_count_98 rfl q1396 mw_X2_isNight rfl rfl (m_X2_isNight (by omega)) ⟨Nat.le_of_ble_eq_true rfl, Nat.le_of_ble_eq_true rfl⟩ (Nat.le_of_ble_eq_true rfl) (Nat.le_of_ble_eq_true rfl) (Nat.le_of_ble_eq_true rfl) (goI fun r98 G98 h98 => ?_)
    obtain ⟨b98, rfl⟩ := h98
    refine gw_if_eq  (q := 104) (t := 108) hc dX2_count_101 rfl (by decide) (by omega) (fun c101 => ?_) (fun c101 => ?_)
    · skip
      refine gw_iconst (q := 109) hc dX2_count_108 rfl ?_
      exact gw_iret hc dX2_count_109 ⟨_, rfl, ⟨by unfold cntF; (repeat' split) <;> first | omega | rfl | exact congrArg S (by omega), rfl⟩⟩
    · skip
      refine gw_iconst (q := 105) hc dX2_count_104 rfl ?_
      refine gw_goto (q := 109) hc dX2_count_105 (by decide) ?_
      exact gw_iret hc dX2_count_109 ⟨_, rfl, ⟨by unfold cntF; (repeat' split) <;> first | omega | rfl | exact congrArg S (by omega), rfl⟩⟩
  · refine gw_tableIn (t := 110) hc dX2_count_1 (by omega) (by omega) (by rw [w1]; rfl) (by decide) ?_
    refine gw_aload_n (q := 111) hc dX2_count_110 rfl rfl xg_0 ?_
    refine gw_bipush (q := 113) hc dX2_count_111 rfl (by decide) ?_
    refine gw_iload_n (q := 114) hc dX2_count_113 rfl rfl xg_1 ?_
    refine gw_iadd (q := 115) hc dX2_count_114 rfl ?_
    refine gw_iconst (q := 116) hc dX2_count_115 rfl ?_
    refine gw_isub (q := 117) hc dX2_count_116 rfl ?_
    refine gw_callV (q := 120) (bc' := 0) (bs' := 0) (As := [_]) hc dX2_count_117 rfl q1293 mw_X2_num (rc_o hc cE_MO (tg_m hα)) rfl rfl (m_X2_num hα (by omega)) ⟨Nat.le_of_ble_eq_true rfl, Nat.le_of_ble_eq_true rfl⟩ (Nat.le_of_ble_eq_true rfl) (Nat.le_of_ble_eq_true rfl) (Nat.le_of_ble_eq_true rfl) (goI fun r117 G117 h117 => ?_)
    obtain ⟨rfl, rfl⟩ := h117
    exact gw_iret hc dX2_count_120 ⟨_, rfl, ⟨by unfold cntF; (repeat' split) <;> first | omega | rfl | exact congrArg S (by omega), rfl⟩⟩
  · refine gw_tableIn (t := 110) hc dX2_count_1 (by omega) (by omega) (by rw [w1]; rfl) (by decide) ?_
    refine gw_aload_n (q := 111) hc dX2_count_110 rfl rfl xg_0 ?_
    refine gw_bipush (q := 113) hc dX2_count_111 rfl (by decide) ?_
    refine gw_iload_n (q := 114) hc dX2_count_113 rfl rfl xg_1 ?_
    refine gw_iadd (q := 115) hc dX2_count_114 rfl ?_
    refine gw_iconst (q := 116) hc dX2_count_115 rfl ?_
    refine gw_isub (q := 117) hc dX2_count_116 rfl ?_
    refine gw_callV (q := 120) (bc' := 0) (bs' := 0) (As := [_]) hc dX2_count_117 rfl q1293 mw_X2_num (rc_o hc cE_MO (tg_m hα)) rfl rfl (m_X2_num hα (by omega)) ⟨Nat.le_of_ble_eq_true rfl, Nat.le_of_ble_eq_true rfl⟩ (Nat.le_of_ble_eq_true rfl) (Nat.le_of_ble_eq_true rfl) (Nat.le_of_ble_eq_true rfl) (goI fun r117 G117 h117 => ?_)
    obtain ⟨rfl, rfl⟩ := h117
    exact gw_iret hc dX2_count_120 ⟨_, rfl, ⟨by unfold cntF; (repeat' split) <;> first | omega | rfl | exact congrArg S (by omega), rfl⟩⟩
  · refine gw_tableIn (t := 121) hc dX2_count_1 (by omega) (by omega) (by rw [w1]; rfl) (by decide) ?_
    refine gw_aload_n (q := 122) hc dX2_count_121 rfl rfl xg_0 ?_
    refine gw_iload_n (q := 123) hc dX2_count_122 rfl rfl xg_1 ?_
    refine gw_callV (q := 126) (bc' := 0) (bs' := 0) (As := [_]) hc dX2_count_123 rfl q1448 mw_X2_ofAll (rc_o hc cE_MO (tg_m hα)) rfl rfl (m_X2_ofAll hα hW (by omega)) ⟨Nat.le_of_ble_eq_true rfl, Nat.le_of_ble_eq_true rfl⟩ (Nat.le_of_ble_eq_true rfl) (Nat.le_of_ble_eq_true rfl) (Nat.le_of_ble_eq_true rfl) (goI fun r123 G123 h123 => ?_)
    obtain ⟨rfl, rfl⟩ := h123
    exact gw_iret hc dX2_count_126 ⟨_, rfl, ⟨by unfold cntF; (repeat' split) <;> first | omega | rfl | exact congrArg S (by omega), rfl⟩⟩
  · refine gw_tableIn (t := 121) hc dX2_count_1 (by omega) (by omega) (by rw [w1]; rfl) (by decide) ?_
    refine gw_aload_n (q := 122) hc dX2_count_121 rfl rfl xg_0 ?_
    refine gw_iload_n (q := 123) hc dX2_count_122 rfl rfl xg_1 ?_
    refine gw_callV (q := 126) (bc' := 0) (bs' := 0) (As := [_]) hc dX2_count_123 rfl q1448 mw_X2_ofAll (rc_o hc cE_MO (tg_m hα)) rfl rfl (m_X2_ofAll hα hW (by omega)) ⟨Nat.le_of_ble_eq_true rfl, Nat.le_of_ble_eq_true rfl⟩ (Nat.le_of_ble_eq_true rfl) (Nat.le_of_ble_eq_true rfl) (Nat.le_of_ble_eq_true rfl) (goI fun r123 G123 h123 => ?_)
    obtain ⟨rfl, rfl⟩ := h123
    exact gw_iret hc dX2_count_126 ⟨_, rfl, ⟨by unfold cntF; (repeat' split) <;> first | omega | rfl | exact congrArg S (by omega), rfl⟩⟩
  · refine gw_tableIn (t := 121) hc dX2_count_1 (by omega) (by omega) (by rw [w1]; rfl) (by decide) ?_
    refine gw_aload_n (q := 122) hc dX2_count_121 rfl rfl xg_0 ?_
    refine gw_iload_n (q := 123) hc dX2_count_122 rfl rfl xg_1 ?_
    refine gw_callV (q := 126) (bc' := 0) (bs' := 0) (As := [_]) hc dX2_count_123 rfl q1448 mw_X2_ofAll (rc_o hc cE_MO (tg_m hα)) rfl rfl (m_X2_ofAll hα hW (by omega)) ⟨Nat.le_of_ble_eq_true rfl, Nat.le_of_ble_eq_true rfl⟩ (Nat.le_of_ble_eq_true rfl) (Nat.le_of_ble_eq_true rfl) (Nat.le_of_ble_eq_true rfl) (goI fun r123 G123 h123 => ?_)
    obtain ⟨rfl, rfl⟩ := h123
    exact gw_iret hc dX2_count_126 ⟨_, rfl, ⟨by unfold cntF; (repeat' split) <;> first | omega | rfl | exact congrArg S (by omega), rfl⟩⟩
  · refine gw_tableIn (t := 127) hc dX2_count_1 (by omega) (by omega) (by rw [w1]; rfl) (by decide) ?_
    refine gw_aload_n (q := 128) hc dX2_count_127 rfl rfl xg_0 ?_
    refine gw_bipush (q := 130) hc dX2_count_128 rfl (by decide) ?_
    refine gw_iload_n (q := 131) hc dX2_count_130 rfl rfl xg_1 ?_
    refine gw_iadd (q := 132) hc dX2_count_131 rfl ?_
    refine gw_bipush (q := 134) hc dX2_count_132 rfl (by decide) ?_
    refine gw_isub (q := 135) hc dX2_count_134 rfl ?_
    refine gw_callV (q := 138) (bc' := 0) (bs' := 0) (As := [_]) hc dX2_count_135 rfl q1293 mw_X2_num (rc_o hc cE_MO (tg_m hα)) rfl rfl (m_X2_num hα (by omega)) ⟨Nat.le_of_ble_eq_true rfl, Nat.le_of_ble_eq_true rfl⟩ (Nat.le_of_ble_eq_true rfl) (Nat.le_of_ble_eq_true rfl) (Nat.le_of_ble_eq_true rfl) (goI fun r135 G135 h135 => ?_)
    obtain ⟨rfl, rfl⟩ := h135
    exact gw_iret hc dX2_count_138 ⟨_, rfl, ⟨by unfold cntF; (repeat' split) <;> first | omega | rfl | exact congrArg S (by omega), rfl⟩⟩
  · refine gw_tableIn (t := 127) hc dX2_count_1 (by omega) (by omega) (by rw [w1]; rfl) (by decide) ?_
    refine gw_aload_n (q := 128) hc dX2_count_127 rfl rfl xg_0 ?_
    refine gw_bipush (q := 130) hc dX2_count_128 rfl (by decide) ?_
    refine gw_iload_n (q := 131) hc dX2_count_130 rfl rfl xg_1 ?_
    refine gw_iadd (q := 132) hc dX2_count_131 rfl ?_
    refine gw_bipush (q := 134) hc dX2_count_132 rfl (by decide) ?_
    refine gw_isub (q := 135) hc dX2_count_134 rfl ?_
    refine gw_callV (q := 138) (bc' := 0) (bs' := 0) (As := [_]) hc dX2_count_135 rfl q1293 mw_X2_num (rc_o hc cE_MO (tg_m hα)) rfl rfl (m_X2_num hα (by omega)) ⟨Nat.le_of_ble_eq_true rfl, Nat.le_of_ble_eq_true rfl⟩ (Nat.le_of_ble_eq_true rfl) (Nat.le_of_ble_eq_true rfl) (Nat.le_of_ble_eq_true rfl) (goI fun r135 G135 h135 => ?_)
    obtain ⟨rfl, rfl⟩ := h135
    exact gw_iret hc dX2_count_138 ⟨_, rfl, ⟨by unfold cntF; (repeat' split) <;> first | omega | rfl | exact congrArg S (by omega), rfl⟩⟩
  · refine gw_tableIn (t := 149) hc dX2_count_1 (by omega) (by omega) (by rw [w1]; rfl) (by decide) ?_
    refine gw_iload_n (q := 150) hc dX2_count_149 rfl rfl xg_1 ?_
    refine gw_bipush (q := 152) hc dX2_count_150 rfl (by decide) ?_
    refine gw_bipush (q := 154) hc dX2_count_152 rfl (by decide) ?_
    refine gw_callS (q := 157) (bc' := 0) (bs' := 0) (As := [_, _, _]) hc dX2_count_154 rfl q1280 mw_X2_in rfl rfl (m_X2_in (by omega) (by omega) (by omega)) ⟨Nat.le_of_ble_eq_true rfl, Nat.le_of_ble_eq_true rfl⟩ (Nat.le_of_ble_eq_true rfl) (Nat.le_of_ble_eq_true rfl) (Nat.le_of_ble_eq_true rfl) (goI fun r154 G154 h154 => ?_)
    obtain ⟨b154, rfl⟩ := h154
    refine gw_if_eq  (q := 160) (t := 171) hc dX2_count_157 rfl (by decide) (by omega) (fun c157 => ?_) (fun c157 => ?_)
    · skip
      refine gw_bipush (q := 173) hc dX2_count_171 rfl (by decide) ?_
      exact gw_iret hc dX2_count_173 ⟨_, rfl, ⟨by unfold cntF; (repeat' split) <;> first | omega | rfl | exact congrArg S (by omega), rfl⟩⟩
    · skip
      refine gw_aload_n (q := 161) hc dX2_count_160 rfl rfl xg_0 ?_
      refine gw_iload_n (q := 162) hc dX2_count_161 rfl rfl xg_1 ?_
      refine gw_bipush (q := 164) hc dX2_count_162 rfl (by decide) ?_
      refine gw_isub (q := 165) hc dX2_count_164 rfl ?_
      refine gw_callV (q := 168) (bc' := 0) (bs' := 0) (As := [_]) hc dX2_count_165 rfl q1293 mw_X2_num (rc_o hc cE_MO (tg_m hα)) rfl rfl (m_X2_num hα (by omega)) ⟨Nat.le_of_ble_eq_true rfl, Nat.le_of_ble_eq_true rfl⟩ (Nat.le_of_ble_eq_true rfl) (Nat.le_of_ble_eq_true rfl) (Nat.le_of_ble_eq_true rfl) (goI fun r165 G165 h165 => ?_)
      obtain ⟨rfl, rfl⟩ := h165
      refine gw_goto (q := 173) hc dX2_count_168 (by decide) ?_
      exact gw_iret hc dX2_count_173 ⟨_, rfl, ⟨by unfold cntF; (repeat' split) <;> first | omega | rfl | exact congrArg S (by omega), rfl⟩⟩
  · refine gw_tableIn (t := 149) hc dX2_count_1 (by omega) (by omega) (by rw [w1]; rfl) (by decide) ?_
    refine gw_iload_n (q := 150) hc dX2_count_149 rfl rfl xg_1 ?_
    refine gw_bipush (q := 152) hc dX2_count_150 rfl (by decide) ?_
    refine gw_bipush (q := 154) hc dX2_count_152 rfl (by decide) ?_
    refine gw_callS (q := 157) (bc' := 0) (bs' := 0) (As := [_, _, _]) hc dX2_count_154 rfl q1280 mw_X2_in rfl rfl (m_X2_in (by omega) (by omega) (by omega)) ⟨Nat.le_of_ble_eq_true rfl, Nat.le_of_ble_eq_true rfl⟩ (Nat.le_of_ble_eq_true rfl) (Nat.le_of_ble_eq_true rfl) (Nat.le_of_ble_eq_true rfl) (goI fun r154 G154 h154 => ?_)
    obtain ⟨b154, rfl⟩ := h154
    refine gw_if_eq  (q := 160) (t := 171) hc dX2_count_157 rfl (by decide) (by omega) (fun c157 => ?_) (fun c157 => ?_)
    · skip
      refine gw_bipush (q := 173) hc dX2_count_171 rfl (by decide) ?_
      exact gw_iret hc dX2_count_173 ⟨_, rfl, ⟨by unfold cntF; (repeat' split) <;> first | omega | rfl | exact congrArg S (by omega), rfl⟩⟩
    · skip
      refine gw_aload_n (q := 161) hc dX2_count_160 rfl rfl xg_0 ?_
      refine gw_iload_n (q := 162) hc dX2_count_161 rfl rfl xg_1 ?_
      refine gw_bipush (q := 164) hc dX2_count_162 rfl (by decide) ?_
      refine gw_isub (q := 165) hc dX2_count_164 rfl ?_
      refine gw_callV (q := 168) (bc' := 0) (bs' := 0) (As := [_]) hc dX2_count_165 rfl q1293 mw_X2_num (rc_o hc cE_MO (tg_m hα)) rfl rfl (m_X2_num hα (by omega)) ⟨Nat.le_of_ble_eq_true rfl, Nat.le_of_ble_eq_true rfl⟩ (Nat.le_of_ble_eq_true rfl) (Nat.le_of_ble_eq_true rfl) (Nat.le_of_ble_eq_true rfl) (goI fun r165 G165 h165 => ?_)
      obtain ⟨rfl, rfl⟩ := h165
      refine gw_goto (q := 173) hc dX2_count_168 (by decide) ?_
      exact gw_iret hc dX2_count_173 ⟨_, rfl, ⟨by unfold cntF; (repeat' split) <;> first | omega | rfl | exact congrArg S (by omega), rfl⟩⟩
  · refine gw_tableIn (t := 149) hc dX2_count_1 (by omega) (by omega) (by rw [w1]; rfl) (by decide) ?_
    refine gw_iload_n (q := 150) hc dX2_count_149 rfl rfl xg_1 ?_
    refine gw_bipush (q := 152) hc dX2_count_150 rfl (by decide) ?_
    refine gw_bipush (q := 154) hc dX2_count_152 rfl (by decide) ?_
    refine gw_callS (q := 157) (bc' := 0) (bs' := 0) (As := [_, _, _]) hc dX2_count_154 rfl q1280 mw_X2_in rfl rfl (m_X2_in (by omega) (by omega) (by omega)) ⟨Nat.le_of_ble_eq_true rfl, Nat.le_of_ble_eq_true rfl⟩ (Nat.le_of_ble_eq_true rfl) (Nat.le_of_ble_eq_true rfl) (Nat.le_of_ble_eq_true rfl) (goI fun r154 G154 h154 => ?_)
    obtain ⟨b154, rfl⟩ := h154
    refine gw_if_eq  (q := 160) (t := 171) hc dX2_count_157 rfl (by decide) (by omega) (fun c157 => ?_) (fun c157 => ?_)
    · skip
      refine gw_bipush (q := 173) hc dX2_count_171 rfl (by decide) ?_
      exact gw_iret hc dX2_count_173 ⟨_, rfl, ⟨by unfold cntF; (repeat' split) <;> first | omega | rfl | exact congrArg S (by omega), rfl⟩⟩
    · skip
      refine gw_aload_n (q := 161) hc dX2_count_160 rfl rfl xg_0 ?_
      refine gw_iload_n (q := 162) hc dX2_count_161 rfl rfl xg_1 ?_
      refine gw_bipush (q := 164) hc dX2_count_162 rfl (by decide) ?_
      refine gw_isub (q := 165) hc dX2_count_164 rfl ?_
      refine gw_callV (q := 168) (bc' := 0) (bs' := 0) (As := [_]) hc dX2_count_165 rfl q1293 mw_X2_num (rc_o hc cE_MO (tg_m hα)) rfl rfl (m_X2_num hα (by omega)) ⟨Nat.le_of_ble_eq_true rfl, Nat.le_of_ble_eq_true rfl⟩ (Nat.le_of_ble_eq_true rfl) (Nat.le_of_ble_eq_true rfl) (Nat.le_of_ble_eq_true rfl) (goI fun r165 G165 h165 => ?_)
      obtain ⟨rfl, rfl⟩ := h165
      refine gw_goto (q := 173) hc dX2_count_168 (by decide) ?_
      exact gw_iret hc dX2_count_173 ⟨_, rfl, ⟨by unfold cntF; (repeat' split) <;> first | omega | rfl | exact congrArg S (by omega), rfl⟩⟩
  · refine gw_tableIn (t := 149) hc dX2_count_1 (by omega) (by omega) (by rw [w1]; rfl) (by decide) ?_
    refine gw_iload_n (q := 150) hc dX2_count_149 rfl rfl xg_1 ?_
    refine gw_bipush (q := 152) hc dX2_count_150 rfl (by decide) ?_
    refine gw_bipush (q := 154) hc dX2_count_152 rfl (by decide) ?_
    refine gw_callS (q := 157) (bc' := 0) (bs' := 0) (As := [_, _, _]) hc dX2_count_154 rfl q1280 mw_X2_in rfl rfl (m_X2_in (by omega) (by omega) (by omega)) ⟨Nat.le_of_ble_eq_true rfl, Nat.le_of_ble_eq_true rfl⟩ (Nat.le_of_ble_eq_true rfl) (Nat.le_of_ble_eq_true rfl) (Nat.le_of_ble_eq_true rfl) (goI fun r154 G154 h154 => ?_)
    obtain ⟨b154, rfl⟩ := h154
    refine gw_if_eq  (q := 160) (t := 171) hc dX2_count_157 rfl (by decide) (by omega) (fun c157 => ?_) (fun c157 => ?_)
    · skip
      refine gw_bipush (q := 173) hc dX2_count_171 rfl (by decide) ?_
      exact gw_iret hc dX2_count_173 ⟨_, rfl, ⟨by unfold cntF; (repeat' split) <;> first | omega | rfl | exact congrArg S (by omega), rfl⟩⟩
    · skip
      refine gw_aload_n (q := 161) hc dX2_count_160 rfl rfl xg_0 ?_
      refine gw_iload_n (q := 162) hc dX2_count_161 rfl rfl xg_1 ?_
      refine gw_bipush (q := 164) hc dX2_count_162 rfl (by decide) ?_
      refine gw_isub (q := 165) hc dX2_count_164 rfl ?_
      refine gw_callV (q := 168) (bc' := 0) (bs' := 0) (As := [_]) hc dX2_count_165 rfl q1293 mw_X2_num (rc_o hc cE_MO (tg_m hα)) rfl rfl (m_X2_num hα (by omega)) ⟨Nat.le_of_ble_eq_true rfl, Nat.le_of_ble_eq_true rfl⟩ (Nat.le_of_ble_eq_true rfl) (Nat.le_of_ble_eq_true rfl) (Nat.le_of_ble_eq_true rfl) (goI fun r165 G165 h165 => ?_)
      obtain ⟨rfl, rfl⟩ := h165
      refine gw_goto (q := 173) hc dX2_count_168 (by decide) ?_
      exact gw_iret hc dX2_count_173 ⟨_, rfl, ⟨by unfold cntF; (repeat' split) <;> first | omega | rfl | exact congrArg S (by omega), rfl⟩⟩
  · refine gw_tableIn (t := 149) hc dX2_count_1 (by omega) (by omega) (by rw [w1]; rfl) (by decide) ?_
    refine gw_iload_n (q := 150) hc dX2_count_149 rfl rfl xg_1 ?_
    refine gw_bipush (q := 152) hc dX2_count_150 rfl (by decide) ?_
    refine gw_bipush (q := 154) hc dX2_count_152 rfl (by decide) ?_
    refine gw_callS (q := 157) (bc' := 0) (bs' := 0) (As := [_, _, _]) hc dX2_count_154 rfl q1280 mw_X2_in rfl rfl (m_X2_in (by omega) (by omega) (by omega)) ⟨Nat.le_of_ble_eq_true rfl, Nat.le_of_ble_eq_true rfl⟩ (Nat.le_of_ble_eq_true rfl) (Nat.le_of_ble_eq_true rfl) (Nat.le_of_ble_eq_true rfl) (goI fun r154 G154 h154 => ?_)
    obtain ⟨b154, rfl⟩ := h154
    refine gw_if_eq  (q := 160) (t := 171) hc dX2_count_157 rfl (by decide) (by omega) (fun c157 => ?_) (fun c157 => ?_)
    · skip
      refine gw_bipush (q := 173) hc dX2_count_171 rfl (by decide) ?_
      exact gw_iret hc dX2_count_173 ⟨_, rfl, ⟨by unfold cntF; (repeat' split) <;> first | omega | rfl | exact congrArg S (by omega), rfl⟩⟩
    · skip
      refine gw_aload_n (q := 161) hc dX2_count_160 rfl rfl xg_0 ?_
      refine gw_iload_n (q := 162) hc dX2_count_161 rfl rfl xg_1 ?_
      refine gw_bipush (q := 164) hc dX2_count_162 rfl (by decide) ?_
      refine gw_isub (q := 165) hc dX2_count_164 rfl ?_
      refine gw_callV (q := 168) (bc' := 0) (bs' := 0) (As := [_]) hc dX2_count_165 rfl q1293 mw_X2_num (rc_o hc cE_MO (tg_m hα)) rfl rfl (m_X2_num hα (by omega)) ⟨Nat.le_of_ble_eq_true rfl, Nat.le_of_ble_eq_true rfl⟩ (Nat.le_of_ble_eq_true rfl) (Nat.le_of_ble_eq_true rfl) (Nat.le_of_ble_eq_true rfl) (goI fun r165 G165 h165 => ?_)
      obtain ⟨rfl, rfl⟩ := h165
      refine gw_goto (q := 173) hc dX2_count_168 (by decide) ?_
      exact gw_iret hc dX2_count_173 ⟨_, rfl, ⟨by unfold cntF; (repeat' split) <;> first | omega | rfl | exact congrArg S (by omega), rfl⟩⟩
  · refine gw_tableIn (t := 149) hc dX2_count_1 (by omega) (by omega) (by rw [w1]; rfl) (by decide) ?_
    refine gw_iload_n (q := 150) hc dX2_count_149 rfl rfl xg_1 ?_
    refine gw_bipush (q := 152) hc dX2_count_150 rfl (by decide) ?_
    refine gw_bipush (q := 154) hc dX2_count_152 rfl (by decide) ?_
    refine gw_callS (q := 157) (bc' := 0) (bs' := 0) (As := [_, _, _]) hc dX2_count_154 rfl q1280 mw_X2_in rfl rfl (m_X2_in (by omega) (by omega) (by omega)) ⟨Nat.le_of_ble_eq_true rfl, Nat.le_of_ble_eq_true rfl⟩ (Nat.le_of_ble_eq_true rfl) (Nat.le_of_ble_eq_true rfl) (Nat.le_of_ble_eq_true rfl) (goI fun r154 G154 h154 => ?_)
    obtain ⟨b154, rfl⟩ := h154
    refine gw_if_eq  (q := 160) (t := 171) hc dX2_count_157 rfl (by decide) (by omega) (fun c157 => ?_) (fun c157 => ?_)
    · skip
      refine gw_bipush (q := 173) hc dX2_count_171 rfl (by decide) ?_
      exact gw_iret hc dX2_count_173 ⟨_, rfl, ⟨by unfold cntF; (repeat' split) <;> first | omega | rfl | exact congrArg S (by omega), rfl⟩⟩
    · skip
      refine gw_aload_n (q := 161) hc dX2_count_160 rfl rfl xg_0 ?_
      refine gw_iload_n (q := 162) hc dX2_count_161 rfl rfl xg_1 ?_
      refine gw_bipush (q := 164) hc dX2_count_162 rfl (by decide) ?_
      refine gw_isub (q := 165) hc dX2_count_164 rfl ?_
      refine gw_callV (q := 168) (bc' := 0) (bs' := 0) (As := [_]) hc dX2_count_165 rfl q1293 mw_X2_num (rc_o hc cE_MO (tg_m hα)) rfl rfl (m_X2_num hα (by omega)) ⟨Nat.le_of_ble_eq_true rfl, Nat.le_of_ble_eq_true rfl⟩ (Nat.le_of_ble_eq_true rfl) (Nat.le_of_ble_eq_true rfl) (Nat.le_of_ble_eq_true rfl) (goI fun r165 G165 h165 => ?_)
      obtain ⟨rfl, rfl⟩ := h165
      refine gw_goto (q := 173) hc dX2_count_168 (by decide) ?_
      exact gw_iret hc dX2_count_173 ⟨_, rfl, ⟨by unfold cntF; (repeat' split) <;> first | omega | rfl | exact congrArg S (by omega), rfl⟩⟩
  · refine gw_tableIn (t := 139) hc dX2_count_1 (by omega) (by omega) (by rw [w1]; rfl) (by decide) ?_
    refine gw_aload_n (q := 140) hc dX2_count_139 rfl rfl xg_0 ?_
    refine gw_get (q := 143) hc dX2_count_140 rfl cE_MO 6 (by decide) q1258 (fun _ h => h) (tg_m hα) xg_6 ?_
    exact gw_iret hc dX2_count_143 ⟨_, rfl, ⟨by unfold cntF; (repeat' split) <;> first | omega | rfl | exact congrArg S (by omega), rfl⟩⟩
  · refine gw_tableIn (t := 144) hc dX2_count_1 (by omega) (by omega) (by rw [w1]; rfl) (by decide) ?_
    refine gw_aload_n (q := 145) hc dX2_count_144 rfl rfl xg_0 ?_
    refine gw_get (q := 148) hc dX2_count_145 rfl cE_MO 2 (by decide) q1254 (fun _ h => h) (tg_m hα) xg_2 ?_
    exact gw_iret hc dX2_count_148 ⟨_, rfl, ⟨by unfold cntF; (repeat' split) <;> first | omega | rfl | exact congrArg S (by omega), rfl⟩⟩
  · refine gw_tableOut (t := 149) hc dX2_count_1 (by omega) (Or.inr w1) (by decide) ?_
    refine gw_iload_n (q := 150) hc dX2_count_149 rfl rfl xg_1 ?_
    refine gw_bipush (q := 152) hc dX2_count_150 rfl (by decide) ?_
    refine gw_bipush (q := 154) hc dX2_count_152 rfl (by decide) ?_
    refine gw_callS (q := 157) (bc' := 0) (bs' := 0) (As := [_, _, _]) hc dX2_count_154 rfl q1280 mw_X2_in rfl rfl (m_X2_in (by omega) (by omega) (by omega)) ⟨Nat.le_of_ble_eq_true rfl, Nat.le_of_ble_eq_true rfl⟩ (Nat.le_of_ble_eq_true rfl) (Nat.le_of_ble_eq_true rfl) (Nat.le_of_ble_eq_true rfl) (goI fun r154 G154 h154 => ?_)
    obtain ⟨b154, rfl⟩ := h154
    refine gw_if_eq  (q := 160) (t := 171) hc dX2_count_157 rfl (by decide) (by omega) (fun c157 => ?_) (fun c157 => ?_)
    · skip
      refine gw_bipush (q := 173) hc dX2_count_171 rfl (by decide) ?_
      exact gw_iret hc dX2_count_173 ⟨_, rfl, ⟨by unfold cntF; (repeat' split) <;> first | omega | rfl | exact congrArg S (by omega), rfl⟩⟩
    · skip
      refine gw_aload_n (q := 161) hc dX2_count_160 rfl rfl xg_0 ?_
      refine gw_iload_n (q := 162) hc dX2_count_161 rfl rfl xg_1 ?_
      refine gw_bipush (q := 164) hc dX2_count_162 rfl (by decide) ?_
      refine gw_isub (q := 165) hc dX2_count_164 rfl ?_
      refine gw_callV (q := 168) (bc' := 0) (bs' := 0) (As := [_]) hc dX2_count_165 rfl q1293 mw_X2_num (rc_o hc cE_MO (tg_m hα)) rfl rfl (m_X2_num hα (by omega)) ⟨Nat.le_of_ble_eq_true rfl, Nat.le_of_ble_eq_true rfl⟩ (Nat.le_of_ble_eq_true rfl) (Nat.le_of_ble_eq_true rfl) (Nat.le_of_ble_eq_true rfl) (goI fun r165 G165 h165 => ?_)
      obtain ⟨rfl, rfl⟩ := h165
      refine gw_goto (q := 173) hc dX2_count_168 (by decide) ?_
      exact gw_iret hc dX2_count_173 ⟨_, rfl, ⟨by unfold cntF; (repeat' split) <;> first | omega | rfl | exact congrArg S (by omega), rfl⟩⟩

theorem mw_X2_bill : mV "EnergyDiscsModel" yX2_bill cX2_bill 2 (some FieldType.int) 1 := ⟨⟨rfl, by decide +kernel, by decide +kernel, by decide +kernel⟩, q1453, q1454, q82, q1455⟩
set_option maxHeartbeats 4000000 in
theorem m_X2_bill {l : Launch} {D : va_G} {X : Nat → Nat} {b0 : Nat} {α : Nat → Nat} {S P L V Pd : Int → Int} {kn ln : Int} {G : gM} (hα : aN α) {m : Int} {N : Int} (hW : rowW S N) (hm : rI m) : gMet l D X b0 yX2_bill cX2_bill 2 (some FieldType.int) (rmE 2 0 0) [.ref (α 0), .int (iI m)] (tG D α S P kn L V Pd ln G) (eI (if 0 ≤ m ∧ m < S 7 then biF S m else -1) (tG D α S P kn L V Pd ln G)) := by
  refine gm_start (own := "EnergyDiscsModel") (lv := [some (.ref (α 0)), some (.int (iI m))]) (by decide +kernel) rfl (Nat.le_of_ble_eq_true rfl) rfl (fun p_ e_ s_ m_ args_ below_ meth_ c_ hc hnm => ?_)
  have h7 := rw_7 hW
  have h8 := rw_8 hW
  have h6 := rw_6 hW
  have hst := rw_s hW
  have hL := rw_l hW
  have hM := rw_m hW
  have hTr := rw_t hW
  refine gw_aload_n (q := 1) hc dX2_bill_0 rfl rfl xg_0 ?_
  refine gw_iload_n (q := 2) hc dX2_bill_1 rfl rfl xg_1 ?_
  refine gw_callV (q := 5) (bc' := 0) (bs' := 0) (As := [_]) hc dX2_bill_2 rfl q1305 mw_X2_isMeter (rc_o hc cE_MO (tg_m hα)) rfl rfl (m_X2_isMeter hα (by omega) (by omega)) ⟨Nat.le_of_ble_eq_true rfl, Nat.le_of_ble_eq_true rfl⟩ (Nat.le_of_ble_eq_true rfl) (Nat.le_of_ble_eq_true rfl) (Nat.le_of_ble_eq_true rfl) (goI fun r2 G2 h2 => ?_)
  obtain ⟨b2, rfl⟩ := h2
  refine gw_if_eq  (q := 8) (t := 16) hc dX2_bill_5 rfl (by decide) (by omega) (fun c5 => ?_) (fun c5 => ?_)
  · skip
    refine gw_iconst (q := 17) hc dX2_bill_16 rfl ?_
    exact gw_iret hc dX2_bill_17 ⟨_, rfl, ⟨by split <;> first | rfl | omega, rfl⟩⟩
  · skip
    refine gw_aload_n (q := 9) hc dX2_bill_8 rfl rfl xg_0 ?_
    refine gw_iload_n (q := 10) hc dX2_bill_9 rfl rfl xg_1 ?_
    refine gw_callV (q := 13) (bc' := 0) (bs' := 0) (As := [_]) hc dX2_bill_10 rfl q1362 mw_X2_billOf (rc_o hc cE_MO (tg_m hα)) rfl rfl (m_X2_billOf hα (by omega)) ⟨Nat.le_of_ble_eq_true rfl, Nat.le_of_ble_eq_true rfl⟩ (Nat.le_of_ble_eq_true rfl) (Nat.le_of_ble_eq_true rfl) (Nat.le_of_ble_eq_true rfl) (goI fun r10 G10 h10 => ?_)
    obtain ⟨rfl, rfl⟩ := h10
    refine gw_goto (q := 17) hc dX2_bill_13 (by decide) ?_
    exact gw_iret hc dX2_bill_17 ⟨_, rfl, ⟨by split <;> first | rfl | omega, rfl⟩⟩

theorem mw_X2_worst : mV "EnergyDiscsModel" yX2_worst cX2_worst 3 (some FieldType.int) 0 := ⟨⟨rfl, by decide +kernel, by decide +kernel, by decide +kernel⟩, q1469, q1470, q82, q1471⟩
set_option maxHeartbeats 4000000 in
theorem m_X2_worst {l : Launch} {D : va_G} {X : Nat → Nat} {b0 : Nat} {α : Nat → Nat} {S P L V Pd : Int → Int} {kn ln : Int} {G : gM} (hα : aN α)  {N : Int} (hW : rowW S N) : gMet l D X b0 yX2_worst cX2_worst 3 (some FieldType.int) (rmE 4 0 0) [.ref (α 0)] (tG D α S P kn L V Pd ln G) (eI (woF S (S 7).toNat) (tG D α S P kn L V Pd ln G)) := by
  refine gm_start (own := "EnergyDiscsModel") (lv := [some (.ref (α 0)), none, none]) (by decide +kernel) rfl (Nat.le_of_ble_eq_true rfl) rfl (fun p_ e_ s_ m_ args_ below_ meth_ c_ hc hnm => ?_)
  have h7 := rw_7 hW
  have h8 := rw_8 hW
  have h6 := rw_6 hW
  have hst := rw_s hW
  have hL := rw_l hW
  have hM := rw_m hW
  have hTr := rw_t hW
  refine gw_bipush (q := 2) hc dX2_worst_0 rfl (by decide) ?_
  refine gw_istore_n (q := 3) hc dX2_worst_2 rfl rfl xs_1 (by decide) (n2p xg_0 rfl) ?_
  refine gw_iconst (q := 4) hc dX2_worst_3 rfl ?_
  refine gw_istore_n (q := 5) hc dX2_worst_4 rfl rfl xs_2 (by decide) (n2p xg_1 rfl) ?_
  refine gw_loop (σ := Nat) (fun x => (x : Int) ≤ S 7) (fun x => (S 7 - x).toNat) (fun x => tG D α S P kn L V Pd ln G) (fun x => [some (.ref (α 0)), some (.int (iI (woF S x))), some (.int (iI (x : Int)))]) ?_ 0 h7.1
  rintro k hI5 ih5
  try dsimp only at hI5 ⊢
  have hwo := woF_r (S := S) k
  refine gw_iload_n (q := 6) hc dX2_worst_5 rfl rfl xg_2 ?_
  refine gw_aload_n (q := 7) hc dX2_worst_6 rfl rfl xg_0 ?_
  refine gw_bipush (q := 9) hc dX2_worst_7 rfl (by decide) ?_
  refine gw_callV (q := 12) (bc' := 0) (bs' := 0) (As := [_]) hc dX2_worst_9 rfl q1293 mw_X2_num (rc_o hc cE_MO (tg_m hα)) rfl rfl (m_X2_num hα (by omega)) ⟨Nat.le_of_ble_eq_true rfl, Nat.le_of_ble_eq_true rfl⟩ (Nat.le_of_ble_eq_true rfl) (Nat.le_of_ble_eq_true rfl) (Nat.le_of_ble_eq_true rfl) (goI fun r9 G9 h9 => ?_)
  obtain ⟨rfl, rfl⟩ := h9
  refine gw_icmp_ge  (q := 15) (t := 47) hc dX2_worst_12 rfl (by decide) (by omega) (by omega) (fun c12 => ?_) (fun c12 => ?_)
  · skip
    refine gw_iload_n (q := 48) hc dX2_worst_47 rfl rfl xg_1 ?_
    exact gw_iret hc dX2_worst_48 ⟨_, rfl, ⟨by rw [show k = (S 7).toNat by omega], rfl⟩⟩
  · skip
    refine gw_iload_n (q := 16) hc dX2_worst_15 rfl rfl xg_1 ?_
    refine gw_bipush (q := 18) hc dX2_worst_16 rfl (by decide) ?_
    refine gw_icmp_eq  (q := 21) (t := 35) hc dX2_worst_18 rfl (by decide) (by omega) (by omega) (fun c18 => ?_) (fun c18 => ?_)
    · skip
      refine gw_iload_n (q := 36) hc dX2_worst_35 rfl rfl xg_2 ?_
      refine gw_goto (q := 40) hc dX2_worst_36 (by decide) ?_
      refine gw_istore_n (q := 41) hc dX2_worst_40 rfl rfl xs_1 (by decide) (n2p xg_0 rfl) ?_
      refine gw_lv (show _ = [some (.ref (α 0)), some (.int (iI (woF S (k + 1)))), some (.int (iI (k : Int)))] from by rw [show woF S (k + 1) = (k : Int) from if_pos (by omega)]) ?_
      refine gw_iinc (q := 44) hc dX2_worst_41 rfl xg_2 xs_2 (by decide) (n2p xg_1 rfl) ?_
      refine gw_goto (q := 5) hc dX2_worst_44 (by decide) ?_
      exact ih5 (k + 1) (by omega) (by omega)
    · skip
      refine gw_aload_n (q := 22) hc dX2_worst_21 rfl rfl xg_0 ?_
      refine gw_iload_n (q := 23) hc dX2_worst_22 rfl rfl xg_2 ?_
      refine gw_callV (q := 26) (bc' := 0) (bs' := 0) (As := [_]) hc dX2_worst_23 rfl q1472 mw_X2_misses (rc_o hc cE_MO (tg_m hα)) rfl rfl (m_X2_misses hα hW (by omega)) ⟨Nat.le_of_ble_eq_true rfl, Nat.le_of_ble_eq_true rfl⟩ (Nat.le_of_ble_eq_true rfl) (Nat.le_of_ble_eq_true rfl) (Nat.le_of_ble_eq_true rfl) (goJ fun r23 G23 h23 => ?_)
      obtain ⟨rfl, rfl⟩ := h23
      rw [if_pos (by omega)]
      have hb1 := msF_bd hW k (by omega) (by omega)
      refine gw_aload_n (q := 27) hc dX2_worst_26 rfl rfl xg_0 ?_
      refine gw_iload_n (q := 28) hc dX2_worst_27 rfl rfl xg_1 ?_
      refine gw_callV (q := 31) (bc' := 0) (bs' := 0) (As := [_]) hc dX2_worst_28 rfl q1472 mw_X2_misses (rc_o hc cE_MO (tg_m hα)) rfl rfl (m_X2_misses hα hW (by omega)) ⟨Nat.le_of_ble_eq_true rfl, Nat.le_of_ble_eq_true rfl⟩ (Nat.le_of_ble_eq_true rfl) (Nat.le_of_ble_eq_true rfl) (Nat.le_of_ble_eq_true rfl) (goJ fun r28 G28 h28 => ?_)
      obtain ⟨rfl, rfl⟩ := h28
      rw [if_pos (by omega)]
      have hb2 := msF_bd hW (woF S k) (by omega) (by omega)
      refine gw_lcmp (q := 32) hc dX2_worst_31 rfl (by omega) (by omega) ?_
      refine gw_ifc_le  (q := 35) (t := 39) hc dX2_worst_32 rfl (by decide)  (fun c32 => ?_) (fun c32 => ?_)
      · skip
        refine gw_iload_n (q := 40) hc dX2_worst_39 rfl rfl xg_1 ?_
        refine gw_istore_n (q := 41) hc dX2_worst_40 rfl rfl xs_1 (by decide) (n2p xg_0 rfl) ?_
        refine gw_lv (show _ = [some (.ref (α 0)), some (.int (iI (woF S (k + 1)))), some (.int (iI (k : Int)))] from by rw [show woF S (k + 1) = woF S k from if_neg (by omega)]) ?_
        refine gw_iinc (q := 44) hc dX2_worst_41 rfl xg_2 xs_2 (by decide) (n2p xg_1 rfl) ?_
        refine gw_goto (q := 5) hc dX2_worst_44 (by decide) ?_
        exact ih5 (k + 1) (by omega) (by omega)
      · skip
        refine gw_iload_n (q := 36) hc dX2_worst_35 rfl rfl xg_2 ?_
        refine gw_goto (q := 40) hc dX2_worst_36 (by decide) ?_
        refine gw_istore_n (q := 41) hc dX2_worst_40 rfl rfl xs_1 (by decide) (n2p xg_0 rfl) ?_
        refine gw_lv (show _ = [some (.ref (α 0)), some (.int (iI (woF S (k + 1)))), some (.int (iI (k : Int)))] from by rw [show woF S (k + 1) = (k : Int) from if_pos (by omega)]) ?_
        refine gw_iinc (q := 44) hc dX2_worst_41 rfl xg_2 xs_2 (by decide) (n2p xg_1 rfl) ?_
        refine gw_goto (q := 5) hc dX2_worst_44 (by decide) ?_
        exact ih5 (k + 1) (by omega) (by omega)

theorem mw_X2_lags : mV "EnergyDiscsModel" yX2_lags cX2_lags 4 (some FieldType.int) 1 := ⟨⟨rfl, by decide +kernel, by decide +kernel, by decide +kernel⟩, q1474, q1475, q82, q1476⟩
set_option maxHeartbeats 4000000 in
theorem m_X2_lags {l : Launch} {D : va_G} {X : Nat → Nat} {b0 : Nat} {α : Nat → Nat} {S P L V Pd : Int → Int} {kn ln : Int} {G : gM} (hα : aN α) {m : Int} {N : Int} (hW : rowW S N) (hm : rI m) : gMet l D X b0 yX2_lags cX2_lags 4 (some FieldType.int) (rmE 3 0 0) [.ref (α 0), .int (iI m)] (tG D α S P kn L V Pd ln G) (eI (if 0 ≤ m ∧ m < S 7 then lgS S m (S 7 - 1).toNat else -1) (tG D α S P kn L V Pd ln G)) := by
  refine gm_start (own := "EnergyDiscsModel") (lv := [some (.ref (α 0)), some (.int (iI m)), none, none]) (by decide +kernel) rfl (Nat.le_of_ble_eq_true rfl) rfl (fun p_ e_ s_ m_ args_ below_ meth_ c_ hc hnm => ?_)
  have h7 := rw_7 hW
  have h8 := rw_8 hW
  have h6 := rw_6 hW
  have hst := rw_s hW
  have hL := rw_l hW
  have hM := rw_m hW
  have hTr := rw_t hW
  refine gw_aload_n (q := 1) hc dX2_lags_0 rfl rfl xg_0 ?_
  refine gw_iload_n (q := 2) hc dX2_lags_1 rfl rfl xg_1 ?_
  refine gw_callV (q := 5) (bc' := 0) (bs' := 0) (As := [_]) hc dX2_lags_2 rfl q1305 mw_X2_isMeter (rc_o hc cE_MO (tg_m hα)) rfl rfl (m_X2_isMeter hα (by omega) (by omega)) ⟨Nat.le_of_ble_eq_true rfl, Nat.le_of_ble_eq_true rfl⟩ (Nat.le_of_ble_eq_true rfl) (Nat.le_of_ble_eq_true rfl) (Nat.le_of_ble_eq_true rfl) (goI fun r2 G2 h2 => ?_)
  obtain ⟨b2, rfl⟩ := h2
  refine gw_if_ne  (q := 8) (t := 10) hc dX2_lags_5 rfl (by decide) (by omega) (fun c5 => ?_) (fun c5 => ?_)
  · skip
    refine gw_ldc (q := 12) hc dX2_lags_10 rfl (v := 10000000) q1477 (by decide) ?_
    refine gw_aload_n (q := 13) hc dX2_lags_12 rfl rfl xg_0 ?_
    refine gw_iload_n (q := 14) hc dX2_lags_13 rfl rfl xg_1 ?_
    refine gw_callV (q := 17) (bc' := 0) (bs' := 0) (As := [_]) hc dX2_lags_14 rfl q1435 mw_X2_turnsOf (rc_o hc cE_MO (tg_m hα)) rfl rfl (m_X2_turnsOf hα (by omega)) ⟨Nat.le_of_ble_eq_true rfl, Nat.le_of_ble_eq_true rfl⟩ (Nat.le_of_ble_eq_true rfl) (Nat.le_of_ble_eq_true rfl) (Nat.le_of_ble_eq_true rfl) (goI fun r14 G14 h14 => ?_)
    obtain ⟨rfl, rfl⟩ := h14
    refine gw_isub (q := 18) hc dX2_lags_17 rfl ?_
    refine gw_istore_n (q := 19) hc dX2_lags_18 rfl rfl xs_2 (by decide) (n2p xg_1 rfl) ?_
    refine gw_iconst (q := 20) hc dX2_lags_19 rfl ?_
    refine gw_istore_n (q := 21) hc dX2_lags_20 rfl rfl xs_3 (by decide) (n2p xg_2 rfl) ?_
    refine gw_loop (σ := Nat) (fun x => (x : Int) ≤ S 7 - 1) (fun x => (S 7 - x).toNat) (fun x => tG D α S P kn L V Pd ln G) (fun x => [some (.ref (α 0)), some (.int (iI m)), some (.int (iI (lgS S m x))), some (.int (iI ((x : Int) + 1)))]) ?_ 0 (by omega)
    rintro k hI21 ih21
    try dsimp only at hI21 ⊢
    refine gw_iload_n (q := 22) hc dX2_lags_21 rfl rfl xg_3 ?_
    refine gw_aload_n (q := 23) hc dX2_lags_22 rfl rfl xg_0 ?_
    refine gw_bipush (q := 25) hc dX2_lags_23 rfl (by decide) ?_
    refine gw_callV (q := 28) (bc' := 0) (bs' := 0) (As := [_]) hc dX2_lags_25 rfl q1293 mw_X2_num (rc_o hc cE_MO (tg_m hα)) rfl rfl (m_X2_num hα (by omega)) ⟨Nat.le_of_ble_eq_true rfl, Nat.le_of_ble_eq_true rfl⟩ (Nat.le_of_ble_eq_true rfl) (Nat.le_of_ble_eq_true rfl) (Nat.le_of_ble_eq_true rfl) (goI fun r25 G25 h25 => ?_)
    obtain ⟨rfl, rfl⟩ := h25
    refine gw_icmp_ge  (q := 31) (t := 59) hc dX2_lags_28 rfl (by decide) (by omega) (by omega) (fun c28 => ?_) (fun c28 => ?_)
    · skip
      refine gw_iload_n (q := 60) hc dX2_lags_59 rfl rfl xg_2 ?_
      exact gw_iret hc dX2_lags_60 ⟨_, rfl, ⟨by rw [if_pos (by omega), show k = (S 7 - 1).toNat by omega], rfl⟩⟩
    · have ht1 := hTr ((k : Int) + 1) (by omega) (by omega)
      refine gw_iload_n (q := 32) hc dX2_lags_31 rfl rfl xg_2 ?_
      refine gw_aload_n (q := 33) hc dX2_lags_32 rfl rfl xg_0 ?_
      refine gw_iload_n (q := 34) hc dX2_lags_33 rfl rfl xg_3 ?_
      refine gw_iconst (q := 35) hc dX2_lags_34 rfl ?_
      refine gw_callV (q := 38) (bc' := 0) (bs' := 0) (As := [_, _]) hc dX2_lags_35 rfl q1350 mw_X2_its (rc_o hc cE_MO (tg_m hα)) rfl rfl (m_X2_its hα (by omega)) ⟨Nat.le_of_ble_eq_true rfl, Nat.le_of_ble_eq_true rfl⟩ (Nat.le_of_ble_eq_true rfl) (Nat.le_of_ble_eq_true rfl) (Nat.le_of_ble_eq_true rfl) (goI fun r35 G35 h35 => ?_)
      obtain ⟨rfl, rfl⟩ := h35
      simp only [Int.add_zero]
      refine gw_iload_n (q := 39) hc dX2_lags_38 rfl rfl xg_1 ?_
      refine gw_icmp_ne  (q := 42) (t := 50) hc dX2_lags_39 rfl (by decide) (by omega) (by omega) (fun c39 => ?_) (fun c39 => ?_)
      · skip
        refine gw_iconst (q := 51) hc dX2_lags_50 rfl ?_
        refine gw_iadd (q := 52) hc dX2_lags_51 rfl ?_
        rw [show lgS S m k + 0 = lgS S m (k + 1) from by simp only [lgS]; rw [if_neg (by omega)]]
        refine gw_istore_n (q := 53) hc dX2_lags_52 rfl rfl xs_2 (by decide) (n2p xg_1 rfl) ?_
        refine gw_iinc (q := 56) hc dX2_lags_53 rfl xg_3 xs_3 (by decide) (n2p xg_2 rfl) ?_
        refine gw_goto (q := 21) hc dX2_lags_56 (by decide) ?_
        exact ih21 (k + 1) (by omega) (by omega)
      · skip
        refine gw_aload_n (q := 43) hc dX2_lags_42 rfl rfl xg_0 ?_
        refine gw_iload_n (q := 44) hc dX2_lags_43 rfl rfl xg_3 ?_
        refine gw_callV (q := 47) (bc' := 0) (bs' := 0) (As := [_]) hc dX2_lags_44 rfl q1435 mw_X2_turnsOf (rc_o hc cE_MO (tg_m hα)) rfl rfl (m_X2_turnsOf hα (by omega)) ⟨Nat.le_of_ble_eq_true rfl, Nat.le_of_ble_eq_true rfl⟩ (Nat.le_of_ble_eq_true rfl) (Nat.le_of_ble_eq_true rfl) (Nat.le_of_ble_eq_true rfl) (goI fun r44 G44 h44 => ?_)
        obtain ⟨rfl, rfl⟩ := h44
        refine gw_goto (q := 51) hc dX2_lags_47 (by decide) ?_
        refine gw_iadd (q := 52) hc dX2_lags_51 rfl ?_
        rw [show lgS S m k + tnF S ((k : Int) + 1) = lgS S m (k + 1) from by simp only [lgS]; rw [if_pos (by omega)]]
        refine gw_istore_n (q := 53) hc dX2_lags_52 rfl rfl xs_2 (by decide) (n2p xg_1 rfl) ?_
        refine gw_iinc (q := 56) hc dX2_lags_53 rfl xg_3 xs_3 (by decide) (n2p xg_2 rfl) ?_
        refine gw_goto (q := 21) hc dX2_lags_56 (by decide) ?_
        exact ih21 (k + 1) (by omega) (by omega)
  · skip
    refine gw_iconst (q := 9) hc dX2_lags_8 rfl ?_
    exact gw_iret hc dX2_lags_9 ⟨_, rfl, ⟨by rw [if_neg (by omega)], rfl⟩⟩

theorem mw_X2_sign : mV "EnergyDiscsModel" yX2_sign cX2_sign 2 (some FieldType.int) 1 := ⟨⟨rfl, by decide +kernel, by decide +kernel, by decide +kernel⟩, q1416, q1417, q82, q1418⟩
set_option maxHeartbeats 4000000 in
theorem m_X2_sign {l : Launch} {D : va_G} {X : Nat → Nat} {b0 : Nat} {α : Nat → Nat} {S P L V Pd : Int → Int} {kn ln : Int} {G : gM} (hα : aN α) {q : Int} (hln : 0 ≤ ln ∧ ln ≤ 80) (hq : rI q) : gMet l D X b0 yX2_sign cX2_sign 2 (some FieldType.int) (rmE 1 0 0) [.ref (α 0), .int (iI q)] (tG D α S P kn L V Pd ln G) (eI (if 0 ≤ q ∧ q < ln then Pd q else -1) (tG D α S P kn L V Pd ln G)) := by
  refine gm_start (own := "EnergyDiscsModel") (lv := [some (.ref (α 0)), some (.int (iI q))]) (by decide +kernel) rfl (Nat.le_of_ble_eq_true rfl) rfl (fun p_ e_ s_ m_ args_ below_ meth_ c_ hc hnm => ?_)
  refine gw_iload_n (q := 1) hc dX2_sign_0 rfl rfl xg_1 ?_
  refine gw_iconst (q := 2) hc dX2_sign_1 rfl ?_
  refine gw_aload_n (q := 3) hc dX2_sign_2 rfl rfl xg_0 ?_
  refine gw_get (q := 6) hc dX2_sign_3 rfl cE_MO 6 (by decide) q1258 (fun _ h => h) (tg_m hα) xg_6 ?_
  refine gw_iconst (q := 7) hc dX2_sign_6 rfl ?_
  refine gw_isub (q := 8) hc dX2_sign_7 rfl ?_
  refine gw_callS (q := 11) (bc' := 0) (bs' := 0) (As := [_, _, _]) hc dX2_sign_8 rfl q1280 mw_X2_in rfl rfl (m_X2_in (by omega) (by omega) (by omega)) ⟨Nat.le_of_ble_eq_true rfl, Nat.le_of_ble_eq_true rfl⟩ (Nat.le_of_ble_eq_true rfl) (Nat.le_of_ble_eq_true rfl) (Nat.le_of_ble_eq_true rfl) (goI fun r8 G8 h8 => ?_)
  obtain ⟨b8, rfl⟩ := h8
  refine gw_if_eq  (q := 14) (t := 23) hc dX2_sign_11 rfl (by decide) (by omega) (fun c11 => ?_) (fun c11 => ?_)
  · skip
    refine gw_iconst (q := 24) hc dX2_sign_23 rfl ?_
    exact gw_iret hc dX2_sign_24 ⟨_, rfl, ⟨by split <;> first | rfl | omega, rfl⟩⟩
  · skip
    refine gw_aload_n (q := 15) hc dX2_sign_14 rfl rfl xg_0 ?_
    refine gw_get (q := 18) hc dX2_sign_15 rfl cE_MO 5 (by decide) q1257 (fun _ h => h) (tg_m hα) xg_5 ?_
    refine gw_iload_n (q := 19) hc dX2_sign_18 rfl rfl xg_1 ?_
    refine gw_iald (q := 20) hc dX2_sign_19 rfl (tg_d hα) (by omega) (by omega) ?_
    refine gw_goto (q := 24) hc dX2_sign_20 (by decide) ?_
    exact gw_iret hc dX2_sign_24 ⟨_, rfl, ⟨by split <;> first | rfl | omega, rfl⟩⟩

theorem mw_X2_types : mV "EnergyDiscsModel" yX2_types cX2_types 2 none 1 := ⟨⟨rfl, by decide +kernel, by decide +kernel, by decide +kernel⟩, q1409, qs59, q82, q1410⟩
set_option maxHeartbeats 4000000 in
theorem m_X2_types {l : Launch} {D : va_G} {X : Nat → Nat} {b0 : Nat} {α : Nat → Nat} {S P L V Pd : Int → Int} {kn ln : Int} {G : gM} (hα : aN α) {c : Int} (hln : 0 ≤ ln ∧ ln < 80) : gMet l D X b0 yX2_types cX2_types 2 none (rmE 0 0 0) [.ref (α 0), .int (iI c)] (tG D α S P kn L V Pd ln G) (eV (tG D α S P kn L V (fu Pd ln c) (ln + 1) G)) := by
  refine gm_start (own := "EnergyDiscsModel") (lv := [some (.ref (α 0)), some (.int (iI c))]) (by decide +kernel) rfl (Nat.le_of_ble_eq_true rfl) rfl (fun p_ e_ s_ m_ args_ below_ meth_ c_ hc hnm => ?_)
  refine gw_aload_n (q := 1) hc dX2_types_0 rfl rfl xg_0 ?_
  refine gw_get (q := 4) hc dX2_types_1 rfl cE_MO 5 (by decide) q1257 (fun _ h => h) (tg_m hα) xg_5 ?_
  refine gw_aload_n (q := 5) hc dX2_types_4 rfl rfl xg_0 ?_
  refine gw_get (q := 8) hc dX2_types_5 rfl cE_MO 6 (by decide) q1258 (fun _ h => h) (tg_m hα) xg_6 ?_
  refine gw_iload_n (q := 9) hc dX2_types_8 rfl rfl xg_1 ?_
  refine gw_iast (q := 10) hc dX2_types_9 rfl (tg_d hα) (by omega) (by omega) ?_
  refine gw_G (tu_d hα) ?_
  refine gw_aload_n (q := 11) hc dX2_types_10 rfl rfl xg_0 ?_
  refine gw_dup (q := 12) hc dX2_types_11 rfl rfl ?_
  refine gw_get (q := 15) hc dX2_types_12 rfl cE_MO 6 (by decide) q1258 (fun _ h => h) (tg_m hα) xg_6 ?_
  refine gw_iconst (q := 16) hc dX2_types_15 rfl ?_
  refine gw_iadd (q := 17) hc dX2_types_16 rfl ?_
  refine gw_put (q := 20) hc dX2_types_17 rfl cE_MO 6 (by decide) q1258 (fun _ h => h) rfl (tg_m hα) ⟨rfl, rfl⟩ xs_6 (Nat.le_of_ble_eq_true rfl) ?_
  refine gw_G (tu_m hα) ?_
  exact gw_vret hc dX2_types_20 ⟨rfl, rfl⟩

theorem mw_X2_typesNumber : mV "EnergyDiscsModel" yX2_typesNumber cX2_typesNumber 3 none 1 := ⟨⟨rfl, by decide +kernel, by decide +kernel, by decide +kernel⟩, q1413, qs60, q82, q1414⟩
set_option maxHeartbeats 4000000 in
theorem m_X2_typesNumber {l : Launch} {D : va_G} {X : Nat → Nat} {b0 : Nat} {α : Nat → Nat} {S P L V Pd : Int → Int} {kn ln : Int} {G : gM} (hα : aN α) {v : Int} (hv : 0 ≤ v ∧ v < 2147483648) (hln : 0 ≤ ln ∧ ln ≤ 60) : gMet l D X b0 yX2_typesNumber cX2_typesNumber 3 none (rmE 1 0 0) [.ref (α 0), .int (iI v)] (tG D α S P kn L V Pd ln G) (eV (tG D α S P kn L V (wr Pd ln (decL v)) (ln + nd v) G)) := by
  refine gm_start (own := "EnergyDiscsModel") (lv := [some (.ref (α 0)), some (.int (iI v)), none]) (by decide +kernel) rfl (Nat.le_of_ble_eq_true rfl) rfl (fun p_ e_ s_ m_ args_ below_ meth_ c_ hc hnm => ?_)
  have hnb := nd_bd (v := v)
  refine gw_iconst (q := 1) hc dX2_typesNumber_0 rfl ?_
  refine gw_istore_n (q := 2) hc dX2_typesNumber_1 rfl rfl xs_2 (by decide) (n2p xg_1 rfl) ?_
  refine gw_loop (σ := Nat) (fun x => x ≤ 9 ∧ (x = 0 ∨ tp x ≤ v)) (fun x => 9 - x) (fun x => tG D α S P kn L V Pd ln G) (fun x => [some (.ref (α 0)), some (.int (iI v)), some (.int (iI (tp x)))]) ?_ 0 ⟨by omega, Or.inl rfl⟩
  rintro k hI2 ih2
  try dsimp only at hI2 ⊢
  have htp := tp_bd hI2.1
  refine gw_iload_n (q := 3) hc dX2_typesNumber_2 rfl rfl xg_1 ?_
  refine gw_iload_n (q := 4) hc dX2_typesNumber_3 rfl rfl xg_2 ?_
  refine gw_idiv (q := 5) hc dX2_typesNumber_4 rfl (by omega) (by omega) ?_
  refine gw_bipush (q := 7) hc dX2_typesNumber_5 rfl (by decide) ?_
  have hdv : 0 ≤ v / tp k ∧ v / tp k ≤ v := ⟨Int.ediv_nonneg hv.1 (by omega), Int.ediv_le_self _ hv.1⟩
  refine gw_icmp_le  (q := 10) (t := 18) hc dX2_typesNumber_7 rfl (by decide) (by omega) (by omega) (fun c7 => ?_) (fun c7 => ?_)
  · skip
    have hnd := nd_of hI2.1 hv.1 hI2.2 (by omega)
    refine gw_loop (σ := Nat × (Int → Int) × Int) (fun x => (x.1 ≤ 10 ∧ 0 ≤ x.2.2 ∧ x.2.2 + x.1 = ln + nd v) ∧ wr x.2.1 x.2.2 (decK v x.1) = wr Pd ln (decL v)) (fun x => x.1) (fun x => tG D α S P kn L V x.2.1 x.2.2 G) (fun x => [some (.ref (α 0)), some (.int (iI v)), some (.int (iI (tq x.1)))]) ?_ (k + 1, Pd, ln) ⟨⟨by dsimp only; omega, by dsimp only; omega, by dsimp only; omega⟩, by unfold decL; rw [hnd]⟩
    rintro ⟨j, Q, u⟩ hI18 ih18
    try dsimp only at hI18 ⊢
    refine gw_iload_n (q := 19) hc dX2_typesNumber_18 rfl rfl xg_2 ?_
    have hj0 : rI (tq j) ∧ (0 < j → 0 < tq j) ∧ (j = 0 → tq j = 0) := by
      cases j with
      | zero => exact ⟨by decide, fun h => by omega, fun _ => rfl⟩
      | succ i => have := tp_bd (show i ≤ 9 by omega); exact ⟨by simp only [tq]; omega, fun _ => by simp only [tq]; omega, fun h => by omega⟩
    refine gw_if_le  (q := 22) (t := 43) hc dX2_typesNumber_19 rfl (by decide) (by omega) (fun c19 => ?_) (fun c19 => ?_)
    · skip
      exact gw_vret hc dX2_typesNumber_43 ⟨rfl, by rw [show j = 0 by omega] at hI18; rw [show u = ln + nd v by omega]; exact congrArg (fun z => tG D α S P kn L V z (ln + nd v) G) hI18.2⟩
    · skip
      obtain ⟨i, rfl⟩ : ∃ i, j = i + 1 := ⟨j - 1, by omega⟩
      have hti := tp_bd (show i ≤ 9 by omega)
      have hvi : 0 ≤ v / tp i := Int.ediv_nonneg hv.1 (by omega)
      have hvl : v / tp i ≤ v := Int.ediv_le_self _ hv.1
      refine gw_aload_n (q := 23) hc dX2_typesNumber_22 rfl rfl xg_0 ?_
      refine gw_bipush (q := 25) hc dX2_typesNumber_23 rfl (by decide) ?_
      refine gw_iload_n (q := 26) hc dX2_typesNumber_25 rfl rfl xg_1 ?_
      refine gw_iload_n (q := 27) hc dX2_typesNumber_26 rfl rfl xg_2 ?_
      refine gw_idiv (q := 28) hc dX2_typesNumber_27 rfl (by omega) (by simp only [tq]; omega) ?_
      refine gw_bipush (q := 30) hc dX2_typesNumber_28 rfl (by decide) ?_
      refine gw_irem (q := 31) hc dX2_typesNumber_30 rfl (by simp only [tq]; omega) (by decide) ?_
      refine gw_iadd (q := 32) hc dX2_typesNumber_31 rfl ?_
      refine gw_callV (q := 35) (bc' := 0) (bs' := 0) (As := [_]) hc dX2_typesNumber_32 rfl q1407 mw_X2_types (rc_o hc cE_MO (tg_m hα)) rfl rfl (m_X2_types hα (by have := nd_bd (v := v); omega)) ⟨Nat.le_of_ble_eq_true rfl, Nat.le_of_ble_eq_true rfl⟩ (Nat.le_of_ble_eq_true rfl) (Nat.le_of_ble_eq_true rfl) (Nat.le_of_ble_eq_true rfl) (goV fun G32 h32 => ?_)
      subst h32
      refine gw_iload_n (q := 36) hc dX2_typesNumber_35 rfl rfl xg_2 ?_
      refine gw_bipush (q := 38) hc dX2_typesNumber_36 rfl (by decide) ?_
      refine gw_idiv (q := 39) hc dX2_typesNumber_38 rfl (by simp only [tq]; omega) (by decide) ?_
      rw [tq_s]
      refine gw_istore_n (q := 40) hc dX2_typesNumber_39 rfl rfl xs_2 (by decide) (n2p xg_1 rfl) ?_
      refine gw_goto (q := 18) hc dX2_typesNumber_40 (by decide) ?_
      exact ih18 (i, fu Q u (48 + v / tp i % 10), u + 1) (by dsimp only; exact ⟨⟨by omega, by omega, by omega⟩, hI18.2⟩) (by dsimp only; omega)
  · have h10 : tp (k + 1) ≤ v := by
      have := (Int.le_ediv_iff_mul_le htp.1).mp (show 10 ≤ v / tp k by omega)
      simp only [tp]; omega
    have hk9 : k ≠ 9 := by rintro rfl; simp [tp] at h10; omega
    refine gw_iload_n (q := 11) hc dX2_typesNumber_10 rfl rfl xg_2 ?_
    refine gw_bipush (q := 13) hc dX2_typesNumber_11 rfl (by decide) ?_
    refine gw_imul (q := 14) hc dX2_typesNumber_13 rfl ?_
    refine gw_istore_n (q := 15) hc dX2_typesNumber_14 rfl rfl xs_2 (by decide) (n2p xg_1 rfl) ?_
    refine gw_goto (q := 2) hc dX2_typesNumber_15 (by decide) ?_
    exact ih2 (k + 1) ⟨by omega, Or.inr h10⟩ (by omega)

