/-! ===== the twin: tries, texts ===== -/
set_option maxRecDepth 100000
/-- minutes until a meter turns -/
def tiR (S : Int → Int) (m r : Int) : Prop := (∃ n : Nat, 1 ≤ n ∧ n ≤ 3000 ∧ r = n ∧ tnF (paF S n) m ≠ tnF S m ∧ ∀ i : Nat, i < n → tnF (paF S i) m = tnF S m) ∨ (r = -6 ∧ ∀ i : Nat, i ≤ 3000 → tnF (paF S i) m = tnF S m)
/-- the turns that minutes would make -/
def wtF (S : Int → Int) (m t n : Int) : Int := if ¬ (0 ≤ m ∧ m < S 7) then -1 else if ¬ ((1 ≤ t ∧ t ≤ 1440) ∧ (0 ≤ n ∧ n ≤ 1)) then -2 else if n = 1 then paF S t.toNat (0 + 11 + 13 * m + 4) - S (0 + 11 + 13 * m + 4) else paF S t.toNat (0 + 11 + 13 * m + 3) - S (0 + 11 + 13 * m + 3)
/-- a byte of a long -/
def byF (v : Int64) (k : Nat) : Int := ((v >>> ((iI (8 * (k : Int))).toInt64 &&& 63)) &&& jI 255).toInt
theorem by_ge (x : Int64) : 0 ≤ (x &&& jI 255).toInt ∧ (x &&& jI 255).toInt ≤ 255 := by
  have h : (x &&& jI 255).toBitVec.toNat ≤ 255 := by
    rw [Int64.toBitVec_and, show (jI 255).toBitVec = 255#64 from rfl, BitVec.toNat_and]
    exact Nat.and_le_right
  have e : (x &&& jI 255).toInt = (x &&& jI 255).toBitVec.toInt := rfl
  rw [e, BitVec.toInt_eq_toNat_cond]
  split <;> omega
theorem by_r (v : Int64) (k : Nat) : 0 ≤ byF v k ∧ byF v k ≤ 255 := by_ge _
def pE (v : Int64) : Nat → Int
  | 0 => 0
  | k + 1 => if pE v k ≠ 0 ∨ byF v k = 0 then 1 else 0
def pM (v : Int64) : Nat → Int
  | 0 => 0
  | k + 1 => pM v k + (if pE v (k + 1) = 0 then 1 else 0)
def pR (v : Int64) : Nat → Int
  | 0 => 1
  | k + 1 => if pR v k = 0 then 0 else if pE v (k + 1) ≠ 0 then (if byF v k = 0 then 1 else 0) else if 33 ≤ byF v k ∧ byF v k ≤ 126 then 1 else 0
theorem pE_r {v : Int64} {k : Nat} : pE v k = 0 ∨ pE v k = 1 := by cases k <;> simp only [pE] <;> (repeat' split) <;> simp
theorem pR_r {v : Int64} {k : Nat} : pR v k = 0 ∨ pR v k = 1 := by cases k <;> simp only [pR] <;> (repeat' split) <;> simp
theorem pM_r {v : Int64} : ∀ {k : Nat}, 0 ≤ pM v k ∧ pM v k ≤ k
  | 0 => by simp [pM]
  | k + 1 => by
    have := pM_r (v := v) (k := k)
    simp only [pM]
    split <;> omega
def puL (v : Int64) : Nat → List Int
  | 0 => []
  | k + 1 => byF v k :: puL v k
def puF (v : Int64) (ln : Int) : Int := if pR v 8 = 0 ∨ pM v 8 = 0 then -2 else if 80 < ln + pM v 8 then -4 else ln + pM v 8
/-- the text's signs -/
def padW (Pd : Int → Int) (ln : Int) : Prop := (0 ≤ ln ∧ ln ≤ 80) ∧ ∀ i, 0 ≤ i → i < ln → 33 ≤ Pd i ∧ Pd i ≤ 126
section TXT
variable (Pd : Int → Int) (ln : Int)
def dg (q : Int) : Int := if q < ln then (if 48 ≤ Pd q ∧ Pd q ≤ 57 then Pd q - 48 else -1) else -1
def cd (q : Int) : Int := if q < ln then Pd q else -1
def neF (q : Int) : Int := if dg Pd ln q < 0 then -1 - q else if dg Pd ln q = 0 then q + 1 else if dg Pd ln (q + 1) < 0 then q + 1 else if dg Pd ln (q + 2) < 0 then q + 2 else if dg Pd ln (q + 3) < 0 then q + 3 else q + 4
def nuS (q : Int) : Nat → Int
  | 0 => 0
  | k + 1 => 10 * nuS q k + dg Pd ln (q + k)
def nuF (q : Int) : Int := nuS Pd ln q (neF Pd ln q - q).toNat
def oeF (q : Int) : Int :=
  if cd Pd ln q = 109 then (if dg Pd ln (q + 1) < 0 then q + 1 else q + 2) else if cd Pd ln q = 108 then (if dg Pd ln (q + 1) < 0 then -2 - q else if cd Pd ln (q + 2) = 61 then neF Pd ln (q + 3) else -3 - q)
  else if cd Pd ln q = 115 ∨ cd Pd ln q = 116 then neF Pd ln (q + 1) else if cd Pd ln q = 98 ∨ cd Pd ln q = 118 then (if dg Pd ln (q + 1) < 0 then -2 - q else q + 2) else -1 - q
def faF : Nat → Int → Int
  | 0, _ => -6
  | n + 1, q => if oeF Pd ln q < 0 then -1 - oeF Pd ln q else if oeF Pd ln q = ln then -6 else if cd Pd ln (oeF Pd ln q) ≠ 59 then oeF Pd ln q else faF n (oeF Pd ln q + 1)
def wyF (S : Int → Int) (q : Int) : Int :=
  if cd Pd ln q = 109 then wnM S (if dg Pd ln (q + 1) < 0 then 0 else dg Pd ln (q + 1)) else if cd Pd ln q = 108 then wnL S (dg Pd ln (q + 1)) (nuF Pd ln (q + 3)) else if cd Pd ln q = 115 then wnO S (nuF Pd ln (q + 1))
  else if cd Pd ln q = 116 then wnP S (nuF Pd ln (q + 1)) else if cd Pd ln q = 98 then wnT S (dg Pd ln (q + 1)) else wnI S (dg Pd ln (q + 1))
def dsF (S : Int → Int) (q : Int) : Int → Int :=
  if cd Pd ln q = 109 then coF S (if dg Pd ln (q + 1) < 0 then 0 else dg Pd ln (q + 1)) else if cd Pd ln q = 108 then loF S (dg Pd ln (q + 1)) (nuF Pd ln (q + 3)) else if cd Pd ln q = 115 then tuF S (nuF Pd ln (q + 1))
  else if cd Pd ln q = 116 then paF S (nuF Pd ln (q + 1)).toNat else if cd Pd ln q = 98 then taF S (dg Pd ln (q + 1)) else viF S (dg Pd ln (q + 1))
/-- orders carried out from a place on: the row, how many -/
def caF : Nat → (Int → Int) → Int → (Int → Int) × Int
  | 0, S, _ => (S, 0)
  | n + 1, S, q => if q < ln ∧ wyF Pd ln S q = 0 then ((caF n (dsF Pd ln S q) (oeF Pd ln q + 1)).1, (caF n (dsF Pd ln S q) (oeF Pd ln q + 1)).2 + 1) else (S, 0)
end TXT
section TXW
variable {Pd : Int → Int} {ln : Int}
theorem dg_r {q : Int} : -1 ≤ dg Pd ln q ∧ dg Pd ln q ≤ 9 := by unfold dg; (repeat' split) <;> omega
theorem dg_o {q : Int} (h : 0 ≤ dg Pd ln q) : q < ln := by unfold dg at h; (repeat' split at h) <;> omega
theorem cd_r (h : padW Pd ln) {q : Int} (h0 : 0 ≤ q) : -1 ≤ cd Pd ln q ∧ cd Pd ln q ≤ 126 := by
  have := h.2 q h0
  unfold cd
  split <;> omega
theorem cd_o {q c : Int} (h : cd Pd ln q = c) (hc : 0 ≤ c) : q < ln := by unfold cd at h; split at h <;> omega
theorem neF_r {q : Int} (h0 : 0 ≤ q) : (neF Pd ln q = -1 - q ∧ dg Pd ln q < 0) ∨ (q + 1 ≤ neF Pd ln q ∧ neF Pd ln q ≤ q + 4 ∧ neF Pd ln q ≤ ln ∧ 0 ≤ dg Pd ln q) := by
  have a0 := dg_o (Pd := Pd) (ln := ln) (q := q)
  have a1 := dg_o (Pd := Pd) (ln := ln) (q := q + 1)
  have a2 := dg_o (Pd := Pd) (ln := ln) (q := q + 2)
  have a3 := dg_o (Pd := Pd) (ln := ln) (q := q + 3)
  unfold neF
  (repeat' split) <;> omega
theorem neF_d {q : Int} (h0 : 0 ≤ q) {k : Int} (hk : 0 ≤ k) (h : q + k < neF Pd ln q) : 0 ≤ dg Pd ln (q + k) := by
  have hk4 : k = 0 ∨ k = 1 ∨ k = 2 ∨ k = 3 := by have := neF_r (Pd := Pd) (ln := ln) h0; omega
  unfold neF at h
  rcases hk4 with rfl | rfl | rfl | rfl
  · rw [Int.add_zero] at h ⊢; (repeat' split at h) <;> omega
  · (repeat' split at h) <;> omega
  · (repeat' split at h) <;> omega
  · (repeat' split at h) <;> omega
theorem nuS_bd {q : Int} (h0 : 0 ≤ q) : ∀ k : Nat, (k : Int) ≤ neF Pd ln q - q → 0 ≤ nuS Pd ln q k ∧ nuS Pd ln q k < tp k
  | 0, _ => by simp [nuS, tp]
  | k + 1, h => by
    have ih := nuS_bd h0 k (by omega)
    have hd := neF_d (Pd := Pd) (ln := ln) h0 (k := k) (by omega) (by omega)
    have hr := dg_r (Pd := Pd) (ln := ln) (q := q + k)
    simp only [nuS, tp]
    omega
theorem nuF_bd {q : Int} (h0 : 0 ≤ q) : 0 ≤ nuF Pd ln q ∧ nuF Pd ln q ≤ 9999 := by
  have hr := neF_r (Pd := Pd) (ln := ln) h0
  unfold nuF
  rcases hr with hr | hr
  · rw [show (neF Pd ln q - q).toNat = 0 by omega]
    simp [nuS]
  · have hb := nuS_bd (Pd := Pd) (ln := ln) h0 (neF Pd ln q - q).toNat (by omega)
    have hk : (neF Pd ln q - q).toNat = 1 ∨ (neF Pd ln q - q).toNat = 2 ∨ (neF Pd ln q - q).toNat = 3 ∨ (neF Pd ln q - q).toNat = 4 := by omega
    rcases hk with h | h | h | h <;> rw [h] at hb ⊢ <;> simp only [tp] at hb <;> omega
theorem oeF_r {q : Int} (h0 : 0 ≤ q) : -4 - q ≤ oeF Pd ln q ∧ oeF Pd ln q ≤ q + 7 ∧ (0 ≤ oeF Pd ln q → q + 1 ≤ oeF Pd ln q) := by
  have n1 := neF_r (Pd := Pd) (ln := ln) (q := q + 1) (by omega)
  have n3 := neF_r (Pd := Pd) (ln := ln) (q := q + 3) (by omega)
  unfold oeF
  (repeat' split) <;> omega
end TXW
section KD
variable {Pd : Int → Int} {ln : Int} {S : Int → Int} {N : Int}
theorem rowW_ds (h : rowW S N) {q : Int} (h0 : 0 ≤ q) (hw : wyF Pd ln S q = 0) : rowW (dsF Pd ln S q) (N + 1) := by
  have h7 := rw_7 h
  have n1 := nuF_bd (Pd := Pd) (ln := ln) (q := q + 1) (by omega)
  unfold wyF at hw
  unfold dsF
  by_cases c1 : cd Pd ln q = 109
  · rw [if_pos c1] at hw ⊢; exact rowW_co h hw
  rw [if_neg c1] at hw ⊢
  by_cases c2 : cd Pd ln q = 108
  · rw [if_pos c2] at hw ⊢; exact rowW_mono (by omega) (rowW_lo h hw)
  rw [if_neg c2] at hw ⊢
  by_cases c3 : cd Pd ln q = 115
  · rw [if_pos c3] at hw ⊢
    have : 0 ≤ nuF Pd ln (q + 1) ∧ nuF Pd ln (q + 1) < S 8 := by unfold wnO at hw; split at hw <;> omega
    exact rowW_mono (by omega) (rowW_tu h this.1 this.2)
  rw [if_neg c3] at hw ⊢
  by_cases c4 : cd Pd ln q = 116
  · rw [if_pos c4] at hw ⊢
    have : 1 ≤ nuF Pd ln (q + 1) ∧ S 6 + nuF Pd ln (q + 1) ≤ 99999 := by unfold wnP at hw; (repeat' split at hw) <;> omega
    exact rowW_mono (by omega) (rowW_pa h (by omega))
  rw [if_neg c4] at hw ⊢
  by_cases c5 : cd Pd ln q = 98
  · rw [if_pos c5] at hw ⊢
    have : 0 ≤ dg Pd ln (q + 1) ∧ dg Pd ln (q + 1) < S 7 := by unfold wnT at hw; (repeat' split at hw) <;> omega
    exact rowW_mono (by omega) (rowW_ta h this.1 this.2)
  rw [if_neg c5] at hw ⊢
  have : 0 ≤ dg Pd ln (q + 1) ∧ dg Pd ln (q + 1) < S 7 := by unfold wnI at hw; split at hw <;> omega
  exact rowW_vi h this.1 this.2
end KD

theorem mw_X2_turnsIn : mV "EnergyDiscsModel" yX2_turnsIn cX2_turnsIn 4 (some FieldType.int) 1 := ⟨⟨rfl, by decide +kernel, by decide +kernel, by decide +kernel⟩, q1457, q1458, q82, q1459⟩
set_option maxHeartbeats 4000000 in
theorem m_X2_turnsIn {l : Launch} {D : va_G} {X : Nat → Nat} {b0 : Nat} {α : Nat → Nat} {S P L V Pd : Int → Int} {kn ln : Int} {G : gM} (hα : aN α) {m : Int} {N : Int} (hW : rowW S N) (hm : rI m) : gMet l D X b0 yX2_turnsIn cX2_turnsIn 4 (some FieldType.int) (rmE 5 0 0) [.ref (α 0), .int (iI m)] (tG D α S P kn L V Pd ln G) (pI fun r G' => ∃ S' : Int → Int, (∀ i, i < 138 → S' i = S i) ∧ G' = tG D α S' P kn L V Pd ln G ∧ if 0 ≤ m ∧ m < S 7 then tiR S m r else r = -1) := by
  refine gm_start (own := "EnergyDiscsModel") (lv := [some (.ref (α 0)), some (.int (iI m)), none, none]) (by decide +kernel) rfl (Nat.le_of_ble_eq_true rfl) rfl (fun p_ e_ s_ m_ args_ below_ meth_ c_ hc hnm => ?_)
  have h7 := rw_7 hW
  have h8 := rw_8 hW
  have h6 := rw_6 hW
  refine gw_aload_n (q := 1) hc dX2_turnsIn_0 rfl rfl xg_0 ?_
  refine gw_iload_n (q := 2) hc dX2_turnsIn_1 rfl rfl xg_1 ?_
  refine gw_callV (q := 5) (bc' := 0) (bs' := 0) (As := [_]) hc dX2_turnsIn_2 rfl q1305 mw_X2_isMeter (rc_o hc cE_MO (tg_m hα)) rfl rfl (m_X2_isMeter hα (by omega) (by omega)) ⟨Nat.le_of_ble_eq_true rfl, Nat.le_of_ble_eq_true rfl⟩ (Nat.le_of_ble_eq_true rfl) (Nat.le_of_ble_eq_true rfl) (Nat.le_of_ble_eq_true rfl) (goI fun r2 G2 h2 => ?_)
  obtain ⟨b2, rfl⟩ := h2
  refine gw_if_ne  (q := 8) (t := 10) hc dX2_turnsIn_5 rfl (by decide) (by omega) (fun c5 => ?_) (fun c5 => ?_)
  · have hM1 : 0 ≤ m ∧ m < S 7 := by omega
    refine gw_aload_n (q := 11) hc dX2_turnsIn_10 rfl rfl xg_0 ?_
    refine gw_callV (q := 14) (bc' := 0) (bs' := 0) (As := []) hc dX2_turnsIn_11 rfl q1460 mw_X2_copies (rc_o hc cE_MO (tg_m hα)) rfl rfl (m_X2_copies hα) ⟨Nat.le_of_ble_eq_true rfl, Nat.le_of_ble_eq_true rfl⟩ (Nat.le_of_ble_eq_true rfl) (Nat.le_of_ble_eq_true rfl) (Nat.le_of_ble_eq_true rfl) (goV fun G11 h11 => ?_)
    obtain ⟨S1, rfl, hcp⟩ := h11
    refine gw_iconst (q := 15) hc dX2_turnsIn_14 rfl ?_
    refine gw_istore_n (q := 16) hc dX2_turnsIn_15 rfl rfl xs_2 (by decide) (n2p xg_1 rfl) ?_
    refine gw_loop (σ := Nat × (Int → Int)) (fun x => (x.1 ≤ 3000 ∧ ∀ i : Nat, i ≤ x.1 → tnF (paF S i) m = tnF S m) ∧ beR S x.2 m x.1) (fun x => 3000 - x.1) (fun x => tG D α x.2 P kn L V Pd ln G) (fun x => [some (.ref (α 0)), some (.int (iI m)), some (.int (iI ((x.1 : Int) + 1))), none]) ?_ (0, S1) ⟨⟨by dsimp only; omega, fun i hi => by dsimp only at hi; rw [show i = 0 by omega]; rfl⟩, be_0 hcp hM1.1 (by omega)⟩
    rintro ⟨n, X1⟩ hI16 ih16
    try dsimp only at hI16 ⊢
    have hbs := be_s hW.1 hI16.2 hM1.1 hM1.2
    have hst := be_st hW.1 hI16.2
    have hmt := be_mt hW.1 hI16.2 hM1.1 hM1.2
    have hsm := be_same hI16.2
    have h144 := hI16.2.2.2.1
    have hpt := pmT_bd (load_E hsm hW.1.2.1) hst hmt hM1.1
    have h6z : S (0 + 6) = S 6 := rfl
    refine gw_iload_n (q := 17) hc dX2_turnsIn_16 rfl rfl xg_2 ?_
    refine gw_sipush (q := 20) hc dX2_turnsIn_17 rfl (by decide) ?_
    refine gw_icmp_gt  (q := 23) (t := 56) hc dX2_turnsIn_20 rfl (by decide) (by omega) (by omega) (fun c20 => ?_) (fun c20 => ?_)
    · skip
      refine gw_bipush (q := 58) hc dX2_turnsIn_56 rfl (by decide) ?_
      exact gw_iret hc dX2_turnsIn_58 ⟨_, rfl, ⟨X1, hI16.2.1, rfl, by rw [if_pos hM1]; exact Or.inr ⟨rfl, fun i hi => hI16.1.2 i (by omega)⟩⟩⟩
    · skip
      refine gw_aload_n (q := 24) hc dX2_turnsIn_23 rfl rfl xg_0 ?_
      refine gw_sipush (q := 27) hc dX2_turnsIn_24 rfl (by decide) ?_
      refine gw_iload_n (q := 28) hc dX2_turnsIn_27 rfl rfl xg_1 ?_
      refine gw_callV (q := 31) (bc' := 0) (bs' := 0) (As := [_, _]) hc dX2_turnsIn_28 rfl q1379 mw_X2_passesOne (rc_o hc cE_MO (tg_m hα)) rfl rfl (m_X2_passesOne hα (T := S (0 + 6) + n) (Or.inr rfl) (by omega) (tree_E hsm hW.1.1) (load_E hsm hW.1.2.1) hst hmt (by rw [h144]; omega)) ⟨Nat.le_of_ble_eq_true rfl, Nat.le_of_ble_eq_true rfl⟩ (Nat.le_of_ble_eq_true rfl) (Nat.le_of_ble_eq_true rfl) (Nat.le_of_ble_eq_true rfl) (goI fun r28 G28 h28 => ?_)
      obtain ⟨rfl, rfl⟩ := h28
      refine gw_istore_n (q := 32) hc dX2_turnsIn_31 rfl rfl xs_3 (by decide) (n2p xg_2 rfl) ?_
      refine gw_aload_n (q := 33) hc dX2_turnsIn_32 rfl rfl xg_0 ?_
      refine gw_get (q := 36) hc dX2_turnsIn_33 rfl cE_MO 0 (by decide) q1252 (fun _ h => h) (tg_m hα) xg_0 ?_
      refine gw_sipush (q := 39) hc dX2_turnsIn_36 rfl (by decide) ?_
      refine gw_dup2_11 (q := 40) hc dX2_turnsIn_39 rfl rfl rfl ?_
      refine gw_lald (q := 41) hc dX2_turnsIn_40 rfl (tg_s hα) (by omega) (by omega) ?_
      refine gw_lconst (q := 42) hc dX2_turnsIn_41 rfl (v := 1) rfl ?_
      refine gw_ladd (q := 43) hc dX2_turnsIn_42 rfl ?_
      refine gw_last (q := 44) hc dX2_turnsIn_43 rfl (tg_s hα) (by omega) (by omega) ?_
      refine gw_G (tu_s hα) ?_
      refine gw_G (show _ = tG D α (be1 X1 m) P kn L V Pd ln G from rfl) ?_
      refine gw_iload_n (q := 45) hc dX2_turnsIn_44 rfl rfl xg_3 ?_
      refine gw_if_le  (q := 48) (t := 50) hc dX2_turnsIn_45 rfl (by decide) (by omega) (fun c45 => ?_) (fun c45 => ?_)
      · skip
        refine gw_iinc (q := 53) hc dX2_turnsIn_50 rfl xg_2 xs_2 (by decide) (n2p xg_1 rfl) ?_
        refine gw_goto (q := 16) hc dX2_turnsIn_53 (by decide) ?_
        refine gw_drop (i := 3) xs_3 ?_
        exact ih16 (n + 1, be1 X1 m) (by dsimp only; exact ⟨⟨by omega, fun i hi => by by_cases e : i = n + 1; (rw [e, hbs.2, hI16.1.2 n (by omega)]; omega); exact hI16.1.2 i (by omega)⟩, hbs.1⟩) (by dsimp only; omega)
      · skip
        refine gw_iload_n (q := 49) hc dX2_turnsIn_48 rfl rfl xg_2 ?_
        exact gw_iret hc dX2_turnsIn_49 ⟨_, rfl, ⟨be1 X1 m, hbs.1.1, rfl, by rw [if_pos hM1]; exact Or.inl ⟨n + 1, by omega, by omega, rfl, by rw [hbs.2, hI16.1.2 n (by omega)]; omega, fun i hi => hI16.1.2 i (by omega)⟩⟩⟩
  · skip
    refine gw_iconst (q := 9) hc dX2_turnsIn_8 rfl ?_
    exact gw_iret hc dX2_turnsIn_9 ⟨_, rfl, ⟨S, fun i _ => rfl, rfl, by rw [if_neg (by omega)]⟩⟩

theorem mw_X2_wouldTurn : mV "EnergyDiscsModel" yX2_wouldTurn cX2_wouldTurn 7 (some FieldType.int) 3 := ⟨⟨rfl, by decide +kernel, by decide +kernel, by decide +kernel⟩, q1465, q1466, q82, q1467⟩
set_option maxHeartbeats 4000000 in
theorem m_X2_wouldTurn {l : Launch} {D : va_G} {X : Nat → Nat} {b0 : Nat} {α : Nat → Nat} {S P L V Pd : Int → Int} {kn ln : Int} {G : gM} (hα : aN α) {m : Int} {t : Int} {w : Int} {N : Int} (hW : rowW S N) (hm : rI m) (ht : rI t) (hw : rI w) : gMet l D X b0 yX2_wouldTurn cX2_wouldTurn 7 (some FieldType.int) (rmE 5 0 0) [.ref (α 0), .int (iI m), .int (iI t), .int (iI w)] (tG D α S P kn L V Pd ln G) (pI fun r G' => ∃ S' : Int → Int, (∀ i, i < 138 → S' i = S i) ∧ G' = tG D α S' P kn L V Pd ln G ∧ r = wtF S m t w) := by
  refine gm_start (own := "EnergyDiscsModel") (lv := [some (.ref (α 0)), some (.int (iI m)), some (.int (iI t)), some (.int (iI w)), none, none, none]) (by decide +kernel) rfl (Nat.le_of_ble_eq_true rfl) rfl (fun p_ e_ s_ m_ args_ below_ meth_ c_ hc hnm => ?_)
  have h7 := rw_7 hW
  have h8 := rw_8 hW
  have h6 := rw_6 hW
  refine gw_aload_n (q := 1) hc dX2_wouldTurn_0 rfl rfl xg_0 ?_
  refine gw_iload_n (q := 2) hc dX2_wouldTurn_1 rfl rfl xg_1 ?_
  refine gw_callV (q := 5) (bc' := 0) (bs' := 0) (As := [_]) hc dX2_wouldTurn_2 rfl q1305 mw_X2_isMeter (rc_o hc cE_MO (tg_m hα)) rfl rfl (m_X2_isMeter hα (by omega) (by omega)) ⟨Nat.le_of_ble_eq_true rfl, Nat.le_of_ble_eq_true rfl⟩ (Nat.le_of_ble_eq_true rfl) (Nat.le_of_ble_eq_true rfl) (Nat.le_of_ble_eq_true rfl) (goI fun r2 G2 h2 => ?_)
  obtain ⟨b2, rfl⟩ := h2
  refine gw_if_ne  (q := 8) (t := 10) hc dX2_wouldTurn_5 rfl (by decide) (by omega) (fun c5 => ?_) (fun c5 => ?_)
  · have hM1 : 0 ≤ m ∧ m < S 7 := by omega
    refine gw_iload_n (q := 11) hc dX2_wouldTurn_10 rfl rfl xg_2 ?_
    refine gw_iconst (q := 12) hc dX2_wouldTurn_11 rfl ?_
    refine gw_sipush (q := 15) hc dX2_wouldTurn_12 rfl (by decide) ?_
    refine gw_callS (q := 18) (bc' := 0) (bs' := 0) (As := [_, _, _]) hc dX2_wouldTurn_15 rfl q1280 mw_X2_in rfl rfl (m_X2_in (by omega) (by omega) (by omega)) ⟨Nat.le_of_ble_eq_true rfl, Nat.le_of_ble_eq_true rfl⟩ (Nat.le_of_ble_eq_true rfl) (Nat.le_of_ble_eq_true rfl) (Nat.le_of_ble_eq_true rfl) (goI fun r15 G15 h15 => ?_)
    obtain ⟨b15, rfl⟩ := h15
    refine gw_if_eq  (q := 21) (t := 30) hc dX2_wouldTurn_18 rfl (by decide) (by omega) (fun c18 => ?_) (fun c18 => ?_)
    · skip
      refine gw_bipush (q := 32) hc dX2_wouldTurn_30 rfl (by decide) ?_
      exact gw_iret hc dX2_wouldTurn_32 ⟨_, rfl, ⟨S, fun i _ => rfl, rfl, by unfold wtF; rw [if_neg (fun z => z hM1), if_pos (by omega)]⟩⟩
    · skip
      refine gw_iload_n (q := 22) hc dX2_wouldTurn_21 rfl rfl xg_3 ?_
      refine gw_iconst (q := 23) hc dX2_wouldTurn_22 rfl ?_
      refine gw_iconst (q := 24) hc dX2_wouldTurn_23 rfl ?_
      refine gw_callS (q := 27) (bc' := 0) (bs' := 0) (As := [_, _, _]) hc dX2_wouldTurn_24 rfl q1280 mw_X2_in rfl rfl (m_X2_in (by omega) (by omega) (by omega)) ⟨Nat.le_of_ble_eq_true rfl, Nat.le_of_ble_eq_true rfl⟩ (Nat.le_of_ble_eq_true rfl) (Nat.le_of_ble_eq_true rfl) (Nat.le_of_ble_eq_true rfl) (goI fun r24 G24 h24 => ?_)
      obtain ⟨b24, rfl⟩ := h24
      refine gw_if_ne  (q := 30) (t := 33) hc dX2_wouldTurn_27 rfl (by decide) (by omega) (fun c27 => ?_) (fun c27 => ?_)
      · skip
        refine gw_aload_n (q := 34) hc dX2_wouldTurn_33 rfl rfl xg_0 ?_
        refine gw_callV (q := 37) (bc' := 0) (bs' := 0) (As := []) hc dX2_wouldTurn_34 rfl q1460 mw_X2_copies (rc_o hc cE_MO (tg_m hα)) rfl rfl (m_X2_copies hα) ⟨Nat.le_of_ble_eq_true rfl, Nat.le_of_ble_eq_true rfl⟩ (Nat.le_of_ble_eq_true rfl) (Nat.le_of_ble_eq_true rfl) (Nat.le_of_ble_eq_true rfl) (goV fun G34 h34 => ?_)
        obtain ⟨S1, rfl, hcp⟩ := h34
        refine gw_iconst (q := 38) hc dX2_wouldTurn_37 rfl ?_
        refine gw_iload_n (q := 39) hc dX2_wouldTurn_38 rfl rfl xg_1 ?_
        refine gw_callS (q := 42) (bc' := 0) (bs' := 0) (As := [_, _]) hc dX2_wouldTurn_39 rfl q1313 mw_X2_at rfl rfl (m_X2_at) ⟨Nat.le_of_ble_eq_true rfl, Nat.le_of_ble_eq_true rfl⟩ (Nat.le_of_ble_eq_true rfl) (Nat.le_of_ble_eq_true rfl) (Nat.le_of_ble_eq_true rfl) (goI fun r39 G39 h39 => ?_)
        obtain ⟨rfl, rfl⟩ := h39
        refine gw_iload_n (q := 43) hc dX2_wouldTurn_42 rfl rfl xg_3 ?_
        refine gw_iconst (q := 44) hc dX2_wouldTurn_43 rfl ?_
        refine gw_icmp_ne  (q := 47) (t := 51) hc dX2_wouldTurn_44 rfl (by decide) (by omega) (by omega) (fun c44 => ?_) (fun c44 => ?_)
        · skip
          refine gw_iconst (q := 52) hc dX2_wouldTurn_51 rfl ?_
          refine gw_iadd (q := 53) hc dX2_wouldTurn_52 rfl ?_
          refine gw_istore (q := 55) hc dX2_wouldTurn_53 rfl xs_4 (by decide) (n2p xg_3 rfl) ?_
          refine gw_iconst (q := 56) hc dX2_wouldTurn_55 rfl ?_
          refine gw_istore (q := 58) hc dX2_wouldTurn_56 rfl xs_5 (by decide) (n2p xg_4 rfl) ?_
          refine gw_loop (σ := Nat × (Int → Int)) (fun x => (x.1 : Int) ≤ t ∧ beR S x.2 m x.1) (fun x => (t - x.1).toNat) (fun x => tG D α x.2 P kn L V Pd ln G) (fun x => [some (.ref (α 0)), some (.int (iI m)), some (.int (iI t)), some (.int (iI w)), some (.int (iI (0 + 11 + 13 * m + 3))), some (.int (iI (x.1 : Int))), none]) ?_ (0, S1) ⟨by dsimp only; omega, be_0 hcp hM1.1 (by omega)⟩
          rintro ⟨n, X1⟩ hI58 ih58
          try dsimp only at hI58 ⊢
          have hbs := be_s hW.1 hI58.2 hM1.1 hM1.2
          have hst := be_st hW.1 hI58.2
          have hmt := be_mt hW.1 hI58.2 hM1.1 hM1.2
          have hsm := be_same hI58.2
          have h144 := hI58.2.2.2.1
          have h6z : S (0 + 6) = S 6 := rfl
          refine gw_iload (q := 60) hc dX2_wouldTurn_58 rfl xg_5 ?_
          refine gw_iload_n (q := 61) hc dX2_wouldTurn_60 rfl rfl xg_2 ?_
          refine gw_icmp_ge  (q := 64) (t := 92) hc dX2_wouldTurn_61 rfl (by decide) (by omega) (by omega) (fun c61 => ?_) (fun c61 => ?_)
          · skip
            refine gw_aload_n (q := 93) hc dX2_wouldTurn_92 rfl rfl xg_0 ?_
            refine gw_get (q := 96) hc dX2_wouldTurn_93 rfl cE_MO 0 (by decide) q1252 (fun _ h => h) (tg_m hα) xg_0 ?_
            refine gw_sipush (q := 99) hc dX2_wouldTurn_96 rfl (by decide) ?_
            refine gw_iload (q := 101) hc dX2_wouldTurn_99 rfl xg_4 ?_
            refine gw_iadd (q := 102) hc dX2_wouldTurn_101 rfl ?_
            refine gw_lald (q := 103) hc dX2_wouldTurn_102 rfl (tg_s hα) (by omega) (by omega) ?_
            refine gw_aload_n (q := 104) hc dX2_wouldTurn_103 rfl rfl xg_0 ?_
            refine gw_get (q := 107) hc dX2_wouldTurn_104 rfl cE_MO 0 (by decide) q1252 (fun _ h => h) (tg_m hα) xg_0 ?_
            refine gw_iload (q := 109) hc dX2_wouldTurn_107 rfl xg_4 ?_
            refine gw_lald (q := 110) hc dX2_wouldTurn_109 rfl (tg_s hα) (by omega) (by omega) ?_
            refine gw_lsub (q := 111) hc dX2_wouldTurn_110 rfl ?_
            refine gw_l2i (q := 112) hc dX2_wouldTurn_111 rfl ?_
            exact gw_iret hc dX2_wouldTurn_112 ⟨_, rfl, ⟨X1, hI58.2.1, rfl, by unfold wtF; rw [if_neg (fun z => z hM1), if_neg (by omega), if_neg (by omega), hI58.2.1 (0 + 11 + 13 * m + 3) (by omega), show 138 + (0 + 11 + 13 * m + 3) = 138 + 11 + 13 * m + 3 by omega, hI58.2.2.2.2 3 (by omega) (by omega), show n = t.toNat by omega]⟩⟩
          · skip
            refine gw_aload_n (q := 65) hc dX2_wouldTurn_64 rfl rfl xg_0 ?_
            refine gw_sipush (q := 68) hc dX2_wouldTurn_65 rfl (by decide) ?_
            refine gw_iload_n (q := 69) hc dX2_wouldTurn_68 rfl rfl xg_1 ?_
            refine gw_callV (q := 72) (bc' := 0) (bs' := 0) (As := [_, _]) hc dX2_wouldTurn_69 rfl q1379 mw_X2_passesOne (rc_o hc cE_MO (tg_m hα)) rfl rfl (m_X2_passesOne hα (T := S (0 + 6) + n) (Or.inr rfl) (by omega) (tree_E hsm hW.1.1) (load_E hsm hW.1.2.1) hst hmt (by rw [h144]; omega)) ⟨Nat.le_of_ble_eq_true rfl, Nat.le_of_ble_eq_true rfl⟩ (Nat.le_of_ble_eq_true rfl) (Nat.le_of_ble_eq_true rfl) (Nat.le_of_ble_eq_true rfl) (goI fun r69 G69 h69 => ?_)
            obtain ⟨rfl, rfl⟩ := h69
            refine gw_istore (q := 74) hc dX2_wouldTurn_72 rfl xs_6 (by decide) (n2p xg_5 rfl) ?_
            refine gw_aload_n (q := 75) hc dX2_wouldTurn_74 rfl rfl xg_0 ?_
            refine gw_get (q := 78) hc dX2_wouldTurn_75 rfl cE_MO 0 (by decide) q1252 (fun _ h => h) (tg_m hα) xg_0 ?_
            refine gw_sipush (q := 81) hc dX2_wouldTurn_78 rfl (by decide) ?_
            refine gw_dup2_11 (q := 82) hc dX2_wouldTurn_81 rfl rfl rfl ?_
            refine gw_lald (q := 83) hc dX2_wouldTurn_82 rfl (tg_s hα) (by omega) (by omega) ?_
            refine gw_lconst (q := 84) hc dX2_wouldTurn_83 rfl (v := 1) rfl ?_
            refine gw_ladd (q := 85) hc dX2_wouldTurn_84 rfl ?_
            refine gw_last (q := 86) hc dX2_wouldTurn_85 rfl (tg_s hα) (by omega) (by omega) ?_
            refine gw_G (tu_s hα) ?_
            refine gw_G (show _ = tG D α (be1 X1 m) P kn L V Pd ln G from rfl) ?_
            refine gw_iinc (q := 89) hc dX2_wouldTurn_86 rfl xg_5 xs_5 (by decide) (n2p xg_4 rfl) ?_
            refine gw_goto (q := 58) hc dX2_wouldTurn_89 (by decide) ?_
            refine gw_drop (i := 6) xs_6 ?_
            exact ih58 (n + 1, be1 X1 m) (by dsimp only; exact ⟨by omega, hbs.1⟩) (by dsimp only; omega)
        · skip
          refine gw_iconst (q := 48) hc dX2_wouldTurn_47 rfl ?_
          refine gw_goto (q := 52) hc dX2_wouldTurn_48 (by decide) ?_
          refine gw_iadd (q := 53) hc dX2_wouldTurn_52 rfl ?_
          refine gw_istore (q := 55) hc dX2_wouldTurn_53 rfl xs_4 (by decide) (n2p xg_3 rfl) ?_
          refine gw_iconst (q := 56) hc dX2_wouldTurn_55 rfl ?_
          refine gw_istore (q := 58) hc dX2_wouldTurn_56 rfl xs_5 (by decide) (n2p xg_4 rfl) ?_
          refine gw_loop (σ := Nat × (Int → Int)) (fun x => (x.1 : Int) ≤ t ∧ beR S x.2 m x.1) (fun x => (t - x.1).toNat) (fun x => tG D α x.2 P kn L V Pd ln G) (fun x => [some (.ref (α 0)), some (.int (iI m)), some (.int (iI t)), some (.int (iI w)), some (.int (iI (0 + 11 + 13 * m + 4))), some (.int (iI (x.1 : Int))), none]) ?_ (0, S1) ⟨by dsimp only; omega, be_0 hcp hM1.1 (by omega)⟩
          rintro ⟨n, X1⟩ hI58 ih58
          try dsimp only at hI58 ⊢
          have hbs := be_s hW.1 hI58.2 hM1.1 hM1.2
          have hst := be_st hW.1 hI58.2
          have hmt := be_mt hW.1 hI58.2 hM1.1 hM1.2
          have hsm := be_same hI58.2
          have h144 := hI58.2.2.2.1
          have h6z : S (0 + 6) = S 6 := rfl
          refine gw_iload (q := 60) hc dX2_wouldTurn_58 rfl xg_5 ?_
          refine gw_iload_n (q := 61) hc dX2_wouldTurn_60 rfl rfl xg_2 ?_
          refine gw_icmp_ge  (q := 64) (t := 92) hc dX2_wouldTurn_61 rfl (by decide) (by omega) (by omega) (fun c61 => ?_) (fun c61 => ?_)
          · skip
            refine gw_aload_n (q := 93) hc dX2_wouldTurn_92 rfl rfl xg_0 ?_
            refine gw_get (q := 96) hc dX2_wouldTurn_93 rfl cE_MO 0 (by decide) q1252 (fun _ h => h) (tg_m hα) xg_0 ?_
            refine gw_sipush (q := 99) hc dX2_wouldTurn_96 rfl (by decide) ?_
            refine gw_iload (q := 101) hc dX2_wouldTurn_99 rfl xg_4 ?_
            refine gw_iadd (q := 102) hc dX2_wouldTurn_101 rfl ?_
            refine gw_lald (q := 103) hc dX2_wouldTurn_102 rfl (tg_s hα) (by omega) (by omega) ?_
            refine gw_aload_n (q := 104) hc dX2_wouldTurn_103 rfl rfl xg_0 ?_
            refine gw_get (q := 107) hc dX2_wouldTurn_104 rfl cE_MO 0 (by decide) q1252 (fun _ h => h) (tg_m hα) xg_0 ?_
            refine gw_iload (q := 109) hc dX2_wouldTurn_107 rfl xg_4 ?_
            refine gw_lald (q := 110) hc dX2_wouldTurn_109 rfl (tg_s hα) (by omega) (by omega) ?_
            refine gw_lsub (q := 111) hc dX2_wouldTurn_110 rfl ?_
            refine gw_l2i (q := 112) hc dX2_wouldTurn_111 rfl ?_
            exact gw_iret hc dX2_wouldTurn_112 ⟨_, rfl, ⟨X1, hI58.2.1, rfl, by unfold wtF; rw [if_neg (fun z => z hM1), if_neg (by omega), if_pos (by omega), hI58.2.1 (0 + 11 + 13 * m + 4) (by omega), show 138 + (0 + 11 + 13 * m + 4) = 138 + 11 + 13 * m + 4 by omega, hI58.2.2.2.2 4 (by omega) (by omega), show n = t.toNat by omega]⟩⟩
          · skip
            refine gw_aload_n (q := 65) hc dX2_wouldTurn_64 rfl rfl xg_0 ?_
            refine gw_sipush (q := 68) hc dX2_wouldTurn_65 rfl (by decide) ?_
            refine gw_iload_n (q := 69) hc dX2_wouldTurn_68 rfl rfl xg_1 ?_
            refine gw_callV (q := 72) (bc' := 0) (bs' := 0) (As := [_, _]) hc dX2_wouldTurn_69 rfl q1379 mw_X2_passesOne (rc_o hc cE_MO (tg_m hα)) rfl rfl (m_X2_passesOne hα (T := S (0 + 6) + n) (Or.inr rfl) (by omega) (tree_E hsm hW.1.1) (load_E hsm hW.1.2.1) hst hmt (by rw [h144]; omega)) ⟨Nat.le_of_ble_eq_true rfl, Nat.le_of_ble_eq_true rfl⟩ (Nat.le_of_ble_eq_true rfl) (Nat.le_of_ble_eq_true rfl) (Nat.le_of_ble_eq_true rfl) (goI fun r69 G69 h69 => ?_)
            obtain ⟨rfl, rfl⟩ := h69
            refine gw_istore (q := 74) hc dX2_wouldTurn_72 rfl xs_6 (by decide) (n2p xg_5 rfl) ?_
            refine gw_aload_n (q := 75) hc dX2_wouldTurn_74 rfl rfl xg_0 ?_
            refine gw_get (q := 78) hc dX2_wouldTurn_75 rfl cE_MO 0 (by decide) q1252 (fun _ h => h) (tg_m hα) xg_0 ?_
            refine gw_sipush (q := 81) hc dX2_wouldTurn_78 rfl (by decide) ?_
            refine gw_dup2_11 (q := 82) hc dX2_wouldTurn_81 rfl rfl rfl ?_
            refine gw_lald (q := 83) hc dX2_wouldTurn_82 rfl (tg_s hα) (by omega) (by omega) ?_
            refine gw_lconst (q := 84) hc dX2_wouldTurn_83 rfl (v := 1) rfl ?_
            refine gw_ladd (q := 85) hc dX2_wouldTurn_84 rfl ?_
            refine gw_last (q := 86) hc dX2_wouldTurn_85 rfl (tg_s hα) (by omega) (by omega) ?_
            refine gw_G (tu_s hα) ?_
            refine gw_G (show _ = tG D α (be1 X1 m) P kn L V Pd ln G from rfl) ?_
            refine gw_iinc (q := 89) hc dX2_wouldTurn_86 rfl xg_5 xs_5 (by decide) (n2p xg_4 rfl) ?_
            refine gw_goto (q := 58) hc dX2_wouldTurn_89 (by decide) ?_
            refine gw_drop (i := 6) xs_6 ?_
            exact ih58 (n + 1, be1 X1 m) (by dsimp only; exact ⟨by omega, hbs.1⟩) (by dsimp only; omega)
      · skip
        refine gw_bipush (q := 32) hc dX2_wouldTurn_30 rfl (by decide) ?_
        exact gw_iret hc dX2_wouldTurn_32 ⟨_, rfl, ⟨S, fun i _ => rfl, rfl, by unfold wtF; rw [if_neg (fun z => z hM1), if_pos (by omega)]⟩⟩
  · skip
    refine gw_iconst (q := 9) hc dX2_wouldTurn_8 rfl ?_
    exact gw_iret hc dX2_wouldTurn_9 ⟨_, rfl, ⟨S, fun i _ => rfl, rfl, by unfold wtF; rw [if_pos (by omega)]⟩⟩

theorem mw_X2_wipe : mV "EnergyDiscsModel" yX2_wipe cX2_wipe 2 (some FieldType.int) 0 := ⟨⟨rfl, by decide +kernel, by decide +kernel, by decide +kernel⟩, q1484, q1485, q82, q1486⟩
set_option maxHeartbeats 4000000 in
theorem m_X2_wipe {l : Launch} {D : va_G} {X : Nat → Nat} {b0 : Nat} {α : Nat → Nat} {S P L V Pd : Int → Int} {kn ln : Int} {G : gM} (hα : aN α)   : gMet l D X b0 yX2_wipe cX2_wipe 2 (some FieldType.int) (rmE 0 0 0) [.ref (α 0)] (tG D α S P kn L V Pd ln G) (eI ln (tG D α S P kn L V Pd 0 G)) := by
  refine gm_start (own := "EnergyDiscsModel") (lv := [some (.ref (α 0)), none]) (by decide +kernel) rfl (Nat.le_of_ble_eq_true rfl) rfl (fun p_ e_ s_ m_ args_ below_ meth_ c_ hc hnm => ?_)
  refine gw_aload_n (q := 1) hc dX2_wipe_0 rfl rfl xg_0 ?_
  refine gw_get (q := 4) hc dX2_wipe_1 rfl cE_MO 6 (by decide) q1258 (fun _ h => h) (tg_m hα) xg_6 ?_
  refine gw_istore_n (q := 5) hc dX2_wipe_4 rfl rfl xs_1 (by decide) (n2p xg_0 rfl) ?_
  refine gw_aload_n (q := 6) hc dX2_wipe_5 rfl rfl xg_0 ?_
  refine gw_iconst (q := 7) hc dX2_wipe_6 rfl ?_
  refine gw_put (q := 10) hc dX2_wipe_7 rfl cE_MO 6 (by decide) q1258 (fun _ h => h) rfl (tg_m hα) ⟨rfl, rfl⟩ xs_6 (Nat.le_of_ble_eq_true rfl) ?_
  refine gw_G (tu_m hα) ?_
  refine gw_iload_n (q := 11) hc dX2_wipe_10 rfl rfl xg_1 ?_
  exact gw_iret hc dX2_wipe_11 ⟨_, rfl, ⟨rfl, rfl⟩⟩

theorem mw_X2_digit : mV "EnergyDiscsModel" yX2_digit cX2_digit 2 (some FieldType.int) 1 := ⟨⟨rfl, by decide +kernel, by decide +kernel, by decide +kernel⟩, q1501, qs67, q82, q1502⟩
set_option maxHeartbeats 4000000 in
theorem m_X2_digit {l : Launch} {D : va_G} {X : Nat → Nat} {b0 : Nat} {α : Nat → Nat} {S P L V Pd : Int → Int} {kn ln : Int} {G : gM} (hα : aN α) {q : Int} (hp : padW Pd ln) (hq : 0 ≤ q ∧ q ≤ 1000) : gMet l D X b0 yX2_digit cX2_digit 2 (some FieldType.int) (rmE 1 0 0) [.ref (α 0), .int (iI q)] (tG D α S P kn L V Pd ln G) (eI (dg Pd ln q) (tG D α S P kn L V Pd ln G)) := by
  refine gm_start (own := "EnergyDiscsModel") (lv := [some (.ref (α 0)), some (.int (iI q))]) (by decide +kernel) rfl (Nat.le_of_ble_eq_true rfl) rfl (fun p_ e_ s_ m_ args_ below_ meth_ c_ hc hnm => ?_)
  have hl := hp.1
  have hq2 := hp.2 q hq.1
  refine gw_iload_n (q := 1) hc dX2_digit_0 rfl rfl xg_1 ?_
  refine gw_aload_n (q := 2) hc dX2_digit_1 rfl rfl xg_0 ?_
  refine gw_get (q := 5) hc dX2_digit_2 rfl cE_MO 6 (by decide) q1258 (fun _ h => h) (tg_m hα) xg_6 ?_
  refine gw_icmp_ge  (q := 8) (t := 36) hc dX2_digit_5 rfl (by decide) (by omega) (by omega) (fun c5 => ?_) (fun c5 => ?_)
  · skip
    refine gw_iconst (q := 37) hc dX2_digit_36 rfl ?_
    exact gw_iret hc dX2_digit_37 ⟨_, rfl, ⟨by unfold dg; (repeat' split) <;> omega, rfl⟩⟩
  · skip
    refine gw_aload_n (q := 9) hc dX2_digit_8 rfl rfl xg_0 ?_
    refine gw_get (q := 12) hc dX2_digit_9 rfl cE_MO 5 (by decide) q1257 (fun _ h => h) (tg_m hα) xg_5 ?_
    refine gw_iload_n (q := 13) hc dX2_digit_12 rfl rfl xg_1 ?_
    refine gw_iald (q := 14) hc dX2_digit_13 rfl (tg_d hα) (by omega) (by omega) ?_
    refine gw_bipush (q := 16) hc dX2_digit_14 rfl (by decide) ?_
    refine gw_bipush (q := 18) hc dX2_digit_16 rfl (by decide) ?_
    refine gw_callS (q := 21) (bc' := 0) (bs' := 0) (As := [_, _, _]) hc dX2_digit_18 rfl q1280 mw_X2_in rfl rfl (m_X2_in (by omega) (by omega) (by omega)) ⟨Nat.le_of_ble_eq_true rfl, Nat.le_of_ble_eq_true rfl⟩ (Nat.le_of_ble_eq_true rfl) (Nat.le_of_ble_eq_true rfl) (Nat.le_of_ble_eq_true rfl) (goI fun r18 G18 h18 => ?_)
    obtain ⟨b18, rfl⟩ := h18
    refine gw_if_eq  (q := 24) (t := 36) hc dX2_digit_21 rfl (by decide) (by omega) (fun c21 => ?_) (fun c21 => ?_)
    · skip
      refine gw_iconst (q := 37) hc dX2_digit_36 rfl ?_
      exact gw_iret hc dX2_digit_37 ⟨_, rfl, ⟨by unfold dg; (repeat' split) <;> omega, rfl⟩⟩
    · skip
      refine gw_aload_n (q := 25) hc dX2_digit_24 rfl rfl xg_0 ?_
      refine gw_get (q := 28) hc dX2_digit_25 rfl cE_MO 5 (by decide) q1257 (fun _ h => h) (tg_m hα) xg_5 ?_
      refine gw_iload_n (q := 29) hc dX2_digit_28 rfl rfl xg_1 ?_
      refine gw_iald (q := 30) hc dX2_digit_29 rfl (tg_d hα) (by omega) (by omega) ?_
      refine gw_bipush (q := 32) hc dX2_digit_30 rfl (by decide) ?_
      refine gw_isub (q := 33) hc dX2_digit_32 rfl ?_
      refine gw_goto (q := 37) hc dX2_digit_33 (by decide) ?_
      exact gw_iret hc dX2_digit_37 ⟨_, rfl, ⟨by unfold dg; (repeat' split) <;> omega, rfl⟩⟩

theorem mw_X2_code : mV "EnergyDiscsModel" yX2_code cX2_code 2 (some FieldType.int) 1 := ⟨⟨rfl, by decide +kernel, by decide +kernel, by decide +kernel⟩, q1497, qs66, q82, q1498⟩
set_option maxHeartbeats 4000000 in
theorem m_X2_code {l : Launch} {D : va_G} {X : Nat → Nat} {b0 : Nat} {α : Nat → Nat} {S P L V Pd : Int → Int} {kn ln : Int} {G : gM} (hα : aN α) {q : Int} (hp : padW Pd ln) (hq : 0 ≤ q ∧ q ≤ 1000) : gMet l D X b0 yX2_code cX2_code 2 (some FieldType.int) (rmE 0 0 0) [.ref (α 0), .int (iI q)] (tG D α S P kn L V Pd ln G) (eI (cd Pd ln q) (tG D α S P kn L V Pd ln G)) := by
  refine gm_start (own := "EnergyDiscsModel") (lv := [some (.ref (α 0)), some (.int (iI q))]) (by decide +kernel) rfl (Nat.le_of_ble_eq_true rfl) rfl (fun p_ e_ s_ m_ args_ below_ meth_ c_ hc hnm => ?_)
  have hl := hp.1
  have hq2 := hp.2 q hq.1
  refine gw_iload_n (q := 1) hc dX2_code_0 rfl rfl xg_1 ?_
  refine gw_aload_n (q := 2) hc dX2_code_1 rfl rfl xg_0 ?_
  refine gw_get (q := 5) hc dX2_code_2 rfl cE_MO 6 (by decide) q1258 (fun _ h => h) (tg_m hα) xg_6 ?_
  refine gw_icmp_ge  (q := 8) (t := 17) hc dX2_code_5 rfl (by decide) (by omega) (by omega) (fun c5 => ?_) (fun c5 => ?_)
  · skip
    refine gw_iconst (q := 18) hc dX2_code_17 rfl ?_
    exact gw_iret hc dX2_code_18 ⟨_, rfl, ⟨by unfold cd; (repeat' split) <;> omega, rfl⟩⟩
  · skip
    refine gw_aload_n (q := 9) hc dX2_code_8 rfl rfl xg_0 ?_
    refine gw_get (q := 12) hc dX2_code_9 rfl cE_MO 5 (by decide) q1257 (fun _ h => h) (tg_m hα) xg_5 ?_
    refine gw_iload_n (q := 13) hc dX2_code_12 rfl rfl xg_1 ?_
    refine gw_iald (q := 14) hc dX2_code_13 rfl (tg_d hα) (by omega) (by omega) ?_
    refine gw_goto (q := 18) hc dX2_code_14 (by decide) ?_
    exact gw_iret hc dX2_code_18 ⟨_, rfl, ⟨by unfold cd; (repeat' split) <;> omega, rfl⟩⟩

theorem mw_X2_numberEnd : mV "EnergyDiscsModel" yX2_numberEnd cX2_numberEnd 3 (some FieldType.int) 1 := ⟨⟨rfl, by decide +kernel, by decide +kernel, by decide +kernel⟩, q1505, qs68, q82, q1506⟩
set_option maxHeartbeats 4000000 in
theorem m_X2_numberEnd {l : Launch} {D : va_G} {X : Nat → Nat} {b0 : Nat} {α : Nat → Nat} {S P L V Pd : Int → Int} {kn ln : Int} {G : gM} (hα : aN α) {q : Int} (hp : padW Pd ln) (hq : 0 ≤ q ∧ q ≤ 100) : gMet l D X b0 yX2_numberEnd cX2_numberEnd 3 (some FieldType.int) (rmE 2 0 0) [.ref (α 0), .int (iI q)] (tG D α S P kn L V Pd ln G) (eI (neF Pd ln q) (tG D α S P kn L V Pd ln G)) := by
  refine gm_start (own := "EnergyDiscsModel") (lv := [some (.ref (α 0)), some (.int (iI q)), none]) (by decide +kernel) rfl (Nat.le_of_ble_eq_true rfl) rfl (fun p_ e_ s_ m_ args_ below_ meth_ c_ hc hnm => ?_)
  have d0 := dg_r (Pd := Pd) (ln := ln) (q := q)
  refine gw_aload_n (q := 1) hc dX2_numberEnd_0 rfl rfl xg_0 ?_
  refine gw_iload_n (q := 2) hc dX2_numberEnd_1 rfl rfl xg_1 ?_
  refine gw_callV (q := 5) (bc' := 0) (bs' := 0) (As := [_]) hc dX2_numberEnd_2 rfl q1499 mw_X2_digit (rc_o hc cE_MO (tg_m hα)) rfl rfl (m_X2_digit hα hp (by omega)) ⟨Nat.le_of_ble_eq_true rfl, Nat.le_of_ble_eq_true rfl⟩ (Nat.le_of_ble_eq_true rfl) (Nat.le_of_ble_eq_true rfl) (Nat.le_of_ble_eq_true rfl) (goI fun r2 G2 h2 => ?_)
  obtain ⟨rfl, rfl⟩ := h2
  refine gw_if_ge  (q := 8) (t := 12) hc dX2_numberEnd_5 rfl (by decide) (by omega) (fun c5 => ?_) (fun c5 => ?_)
  · skip
    refine gw_iload_n (q := 13) hc dX2_numberEnd_12 rfl rfl xg_1 ?_
    refine gw_iconst (q := 14) hc dX2_numberEnd_13 rfl ?_
    refine gw_iadd (q := 15) hc dX2_numberEnd_14 rfl ?_
    refine gw_istore_n (q := 16) hc dX2_numberEnd_15 rfl rfl xs_2 (by decide) (n2p xg_1 rfl) ?_
    refine gw_loop (σ := Int) (fun x => (q + 1 ≤ x ∧ x ≤ q + 4) ∧ (∀ i, q + 1 ≤ i → i < x → 0 ≤ dg Pd ln i) ∧ (x ≠ q + 1 → 0 < dg Pd ln q)) (fun x => (q + 4 - x).toNat) (fun x => tG D α S P kn L V Pd ln G) (fun x => [some (.ref (α 0)), some (.int (iI q)), some (.int (iI x))]) ?_ _ ⟨by omega, fun i a b => by omega, fun z => absurd rfl z⟩
    rintro e hI16 ih16
    try dsimp only at hI16 ⊢
    have de := dg_r (Pd := Pd) (ln := ln) (q := e)
    refine gw_aload_n (q := 17) hc dX2_numberEnd_16 rfl rfl xg_0 ?_
    refine gw_iload_n (q := 18) hc dX2_numberEnd_17 rfl rfl xg_1 ?_
    refine gw_callV (q := 21) (bc' := 0) (bs' := 0) (As := [_]) hc dX2_numberEnd_18 rfl q1499 mw_X2_digit (rc_o hc cE_MO (tg_m hα)) rfl rfl (m_X2_digit hα hp (by omega)) ⟨Nat.le_of_ble_eq_true rfl, Nat.le_of_ble_eq_true rfl⟩ (Nat.le_of_ble_eq_true rfl) (Nat.le_of_ble_eq_true rfl) (Nat.le_of_ble_eq_true rfl) (goI fun r18 G18 h18 => ?_)
    obtain ⟨rfl, rfl⟩ := h18
    refine gw_if_le  (q := 24) (t := 45) hc dX2_numberEnd_21 rfl (by decide) (by omega) (fun c21 => ?_) (fun c21 => ?_)
    · skip
      refine gw_iload_n (q := 46) hc dX2_numberEnd_45 rfl rfl xg_2 ?_
      exact gw_iret hc dX2_numberEnd_46 ⟨_, rfl, ⟨by have i1 := hI16.2.1 (q + 1) (by omega); have i2 := hI16.2.1 (q + 2) (by omega); have i3 := hI16.2.1 (q + 3) (by omega); have i4 := hI16.2.2; rcases (by omega : e = q + 1 ∨ e = q + 2 ∨ e = q + 3 ∨ e = q + 4) with z | z | z | z <;> subst z <;> unfold neF <;> (repeat' split) <;> omega, rfl⟩⟩
    · skip
      refine gw_iload_n (q := 25) hc dX2_numberEnd_24 rfl rfl xg_2 ?_
      refine gw_iload_n (q := 26) hc dX2_numberEnd_25 rfl rfl xg_1 ?_
      refine gw_iconst (q := 27) hc dX2_numberEnd_26 rfl ?_
      refine gw_iadd (q := 28) hc dX2_numberEnd_27 rfl ?_
      refine gw_icmp_ge  (q := 31) (t := 45) hc dX2_numberEnd_28 rfl (by decide) (by omega) (by omega) (fun c28 => ?_) (fun c28 => ?_)
      · skip
        refine gw_iload_n (q := 46) hc dX2_numberEnd_45 rfl rfl xg_2 ?_
        exact gw_iret hc dX2_numberEnd_46 ⟨_, rfl, ⟨by have i1 := hI16.2.1 (q + 1) (by omega); have i2 := hI16.2.1 (q + 2) (by omega); have i3 := hI16.2.1 (q + 3) (by omega); have i4 := hI16.2.2; rcases (by omega : e = q + 1 ∨ e = q + 2 ∨ e = q + 3 ∨ e = q + 4) with z | z | z | z <;> subst z <;> unfold neF <;> (repeat' split) <;> omega, rfl⟩⟩
      · skip
        refine gw_aload_n (q := 32) hc dX2_numberEnd_31 rfl rfl xg_0 ?_
        refine gw_iload_n (q := 33) hc dX2_numberEnd_32 rfl rfl xg_2 ?_
        refine gw_callV (q := 36) (bc' := 0) (bs' := 0) (As := [_]) hc dX2_numberEnd_33 rfl q1499 mw_X2_digit (rc_o hc cE_MO (tg_m hα)) rfl rfl (m_X2_digit hα hp (by omega)) ⟨Nat.le_of_ble_eq_true rfl, Nat.le_of_ble_eq_true rfl⟩ (Nat.le_of_ble_eq_true rfl) (Nat.le_of_ble_eq_true rfl) (Nat.le_of_ble_eq_true rfl) (goI fun r33 G33 h33 => ?_)
        obtain ⟨rfl, rfl⟩ := h33
        refine gw_if_lt  (q := 39) (t := 45) hc dX2_numberEnd_36 rfl (by decide) (by omega) (fun c36 => ?_) (fun c36 => ?_)
        · skip
          refine gw_iload_n (q := 46) hc dX2_numberEnd_45 rfl rfl xg_2 ?_
          exact gw_iret hc dX2_numberEnd_46 ⟨_, rfl, ⟨by have i1 := hI16.2.1 (q + 1) (by omega); have i2 := hI16.2.1 (q + 2) (by omega); have i3 := hI16.2.1 (q + 3) (by omega); have i4 := hI16.2.2; rcases (by omega : e = q + 1 ∨ e = q + 2 ∨ e = q + 3 ∨ e = q + 4) with z | z | z | z <;> subst z <;> unfold neF <;> (repeat' split) <;> omega, rfl⟩⟩
        · skip
          refine gw_iinc (q := 42) hc dX2_numberEnd_39 rfl xg_2 xs_2 (by decide) (n2p xg_1 rfl) ?_
          refine gw_goto (q := 16) hc dX2_numberEnd_42 (by decide) ?_
          exact ih16 (e + 1) ⟨by omega, fun i a b => by by_cases z : i = e; (rw [z]; omega); exact hI16.2.1 i a (by omega), fun _ => by omega⟩ (by omega)
  · skip
    refine gw_iconst (q := 9) hc dX2_numberEnd_8 rfl ?_
    refine gw_iload_n (q := 10) hc dX2_numberEnd_9 rfl rfl xg_1 ?_
    refine gw_isub (q := 11) hc dX2_numberEnd_10 rfl ?_
    exact gw_iret hc dX2_numberEnd_11 ⟨_, rfl, ⟨by unfold neF; rw [if_pos (by omega)], rfl⟩⟩

theorem mw_X2_numberAt : mV "EnergyDiscsModel" yX2_numberAt cX2_numberAt 4 (some FieldType.int) 1 := ⟨⟨rfl, by decide +kernel, by decide +kernel, by decide +kernel⟩, q1518, qs70, q82, q1519⟩
set_option maxHeartbeats 4000000 in
theorem m_X2_numberAt {l : Launch} {D : va_G} {X : Nat → Nat} {b0 : Nat} {α : Nat → Nat} {S P L V Pd : Int → Int} {kn ln : Int} {G : gM} (hα : aN α) {q : Int} (hp : padW Pd ln) (hq : 0 ≤ q ∧ q ≤ 90) : gMet l D X b0 yX2_numberAt cX2_numberAt 4 (some FieldType.int) (rmE 3 0 0) [.ref (α 0), .int (iI q)] (tG D α S P kn L V Pd ln G) (eI (nuF Pd ln q) (tG D α S P kn L V Pd ln G)) := by
  refine gm_start (own := "EnergyDiscsModel") (lv := [some (.ref (α 0)), some (.int (iI q)), none, none]) (by decide +kernel) rfl (Nat.le_of_ble_eq_true rfl) rfl (fun p_ e_ s_ m_ args_ below_ meth_ c_ hc hnm => ?_)
  have hnr := neF_r (Pd := Pd) (ln := ln) hq.1
  refine gw_iconst (q := 1) hc dX2_numberAt_0 rfl ?_
  refine gw_istore_n (q := 2) hc dX2_numberAt_1 rfl rfl xs_2 (by decide) (n2p xg_1 rfl) ?_
  refine gw_iload_n (q := 3) hc dX2_numberAt_2 rfl rfl xg_1 ?_
  refine gw_istore_n (q := 4) hc dX2_numberAt_3 rfl rfl xs_3 (by decide) (n2p xg_2 rfl) ?_
  refine gw_lv (show _ = [some (.ref (α 0)), some (.int (iI q)), some (.int (iI (nuS Pd ln q 0))), some (.int (iI (q + ((0 : Nat) : Int))))] from by rw [show q + ((0 : Nat) : Int) = q by omega]; rfl) ?_
  refine gw_loop (σ := Nat) (fun x => x ≤ (neF Pd ln q - q).toNat) (fun x => (neF Pd ln q - q).toNat - x) (fun x => tG D α S P kn L V Pd ln G) (fun x => [some (.ref (α 0)), some (.int (iI q)), some (.int (iI (nuS Pd ln q x))), some (.int (iI (q + (x : Int))))]) ?_ 0 (Nat.zero_le _)
  rintro k hI4 ih4
  try dsimp only at hI4 ⊢
  refine gw_iload_n (q := 5) hc dX2_numberAt_4 rfl rfl xg_3 ?_
  refine gw_aload_n (q := 6) hc dX2_numberAt_5 rfl rfl xg_0 ?_
  refine gw_iload_n (q := 7) hc dX2_numberAt_6 rfl rfl xg_1 ?_
  refine gw_callV (q := 10) (bc' := 0) (bs' := 0) (As := [_]) hc dX2_numberAt_7 rfl q1503 mw_X2_numberEnd (rc_o hc cE_MO (tg_m hα)) rfl rfl (m_X2_numberEnd hα hp (by omega)) ⟨Nat.le_of_ble_eq_true rfl, Nat.le_of_ble_eq_true rfl⟩ (Nat.le_of_ble_eq_true rfl) (Nat.le_of_ble_eq_true rfl) (Nat.le_of_ble_eq_true rfl) (goI fun r7 G7 h7 => ?_)
  obtain ⟨rfl, rfl⟩ := h7
  refine gw_icmp_ge  (q := 13) (t := 30) hc dX2_numberAt_10 rfl (by decide) (by omega) (by omega) (fun c10 => ?_) (fun c10 => ?_)
  · skip
    refine gw_iload_n (q := 31) hc dX2_numberAt_30 rfl rfl xg_2 ?_
    exact gw_iret hc dX2_numberAt_31 ⟨_, rfl, ⟨by unfold nuF; rw [show k = (neF Pd ln q - q).toNat by omega], rfl⟩⟩
  · skip
    refine gw_bipush (q := 15) hc dX2_numberAt_13 rfl (by decide) ?_
    refine gw_iload_n (q := 16) hc dX2_numberAt_15 rfl rfl xg_2 ?_
    refine gw_imul (q := 17) hc dX2_numberAt_16 rfl ?_
    refine gw_aload_n (q := 18) hc dX2_numberAt_17 rfl rfl xg_0 ?_
    refine gw_iload_n (q := 19) hc dX2_numberAt_18 rfl rfl xg_3 ?_
    refine gw_callV (q := 22) (bc' := 0) (bs' := 0) (As := [_]) hc dX2_numberAt_19 rfl q1499 mw_X2_digit (rc_o hc cE_MO (tg_m hα)) rfl rfl (m_X2_digit hα hp (by omega)) ⟨Nat.le_of_ble_eq_true rfl, Nat.le_of_ble_eq_true rfl⟩ (Nat.le_of_ble_eq_true rfl) (Nat.le_of_ble_eq_true rfl) (Nat.le_of_ble_eq_true rfl) (goI fun r19 G19 h19 => ?_)
    obtain ⟨rfl, rfl⟩ := h19
    refine gw_iadd (q := 23) hc dX2_numberAt_22 rfl ?_
    refine gw_istore_n (q := 24) hc dX2_numberAt_23 rfl rfl xs_2 (by decide) (n2p xg_1 rfl) ?_
    refine gw_iinc (q := 27) hc dX2_numberAt_24 rfl xg_3 xs_3 (by decide) (n2p xg_2 rfl) ?_
    refine gw_goto (q := 4) hc dX2_numberAt_27 (by decide) ?_
    refine gw_lv (show _ = [some (.ref (α 0)), some (.int (iI q)), some (.int (iI (nuS Pd ln q (k + 1)))), some (.int (iI (q + ((k + 1 : Nat) : Int))))] from by rw [show q + ((k + 1 : Nat) : Int) = q + k + 1 by omega]; rfl) ?_
    exact ih4 (k + 1) (by omega) (by omega)

theorem mw_X2_orderEnd : mV "EnergyDiscsModel" yX2_orderEnd cX2_orderEnd 2 (some FieldType.int) 1 := ⟨⟨rfl, by decide +kernel, by decide +kernel, by decide +kernel⟩, q1493, qs65, q82, q1494⟩
set_option maxHeartbeats 4000000 in
theorem m_X2_orderEnd {l : Launch} {D : va_G} {X : Nat → Nat} {b0 : Nat} {α : Nat → Nat} {S P L V Pd : Int → Int} {kn ln : Int} {G : gM} (hα : aN α) {q : Int} (hp : padW Pd ln) (hq : 0 ≤ q ∧ q ≤ 81) : gMet l D X b0 yX2_orderEnd cX2_orderEnd 2 (some FieldType.int) (rmE 3 0 0) [.ref (α 0), .int (iI q)] (tG D α S P kn L V Pd ln G) (eI (oeF Pd ln q) (tG D α S P kn L V Pd ln G)) := by
  refine gm_start (own := "EnergyDiscsModel") (lv := [some (.ref (α 0)), some (.int (iI q))]) (by decide +kernel) rfl (Nat.le_of_ble_eq_true rfl) rfl (fun p_ e_ s_ m_ args_ below_ meth_ c_ hc hnm => ?_)
  have hcr := cd_r hp hq.1
  have d1 := dg_r (Pd := Pd) (ln := ln) (q := q + 1)
  refine gw_aload_n (q := 1) hc dX2_orderEnd_0 rfl rfl xg_0 ?_
  refine gw_iload_n (q := 2) hc dX2_orderEnd_1 rfl rfl xg_1 ?_
  refine gw_callV (q := 5) (bc' := 0) (bs' := 0) (As := [_]) hc dX2_orderEnd_2 rfl q1495 mw_X2_code (rc_o hc cE_MO (tg_m hα)) rfl rfl (m_X2_code hα hp (by omega)) ⟨Nat.le_of_ble_eq_true rfl, Nat.le_of_ble_eq_true rfl⟩ (Nat.le_of_ble_eq_true rfl) (Nat.le_of_ble_eq_true rfl) (Nat.le_of_ble_eq_true rfl) (goI fun r2 G2 h2 => ?_)
  obtain ⟨rfl, rfl⟩ := h2
  rcases (by omega : cd Pd ln q = 98 ∨ cd Pd ln q = 108 ∨ cd Pd ln q = 109 ∨ cd Pd ln q = 115 ∨ cd Pd ln q = 116 ∨ cd Pd ln q = 118 ∨ (cd Pd ln q ≠ 98 ∧ cd Pd ln q ≠ 108 ∧ cd Pd ln q ≠ 109 ∧ cd Pd ln q ≠ 115 ∧ cd Pd ln q ≠ 116 ∧ cd Pd ln q ≠ 118)) with w5 | w5 | w5 | w5 | w5 | w5 | w5
  · refine gw_lookup (t := 134) hc dX2_orderEnd_5 (by omega) (by decide) (by rw [w5] <;> rfl) (by decide) ?_
    refine gw_aload_n (q := 135) hc dX2_orderEnd_134 rfl rfl xg_0 ?_
    refine gw_iload_n (q := 136) hc dX2_orderEnd_135 rfl rfl xg_1 ?_
    refine gw_iconst (q := 137) hc dX2_orderEnd_136 rfl ?_
    refine gw_iadd (q := 138) hc dX2_orderEnd_137 rfl ?_
    refine gw_callV (q := 141) (bc' := 0) (bs' := 0) (As := [_]) hc dX2_orderEnd_138 rfl q1499 mw_X2_digit (rc_o hc cE_MO (tg_m hα)) rfl rfl (m_X2_digit hα hp (by omega)) ⟨Nat.le_of_ble_eq_true rfl, Nat.le_of_ble_eq_true rfl⟩ (Nat.le_of_ble_eq_true rfl) (Nat.le_of_ble_eq_true rfl) (Nat.le_of_ble_eq_true rfl) (goI fun r138 G138 h138 => ?_)
    obtain ⟨rfl, rfl⟩ := h138
    refine gw_if_ge  (q := 144) (t := 151) hc dX2_orderEnd_141 rfl (by decide) (by omega) (fun c141 => ?_) (fun c141 => ?_)
    · skip
      refine gw_iload_n (q := 152) hc dX2_orderEnd_151 rfl rfl xg_1 ?_
      refine gw_iconst (q := 153) hc dX2_orderEnd_152 rfl ?_
      refine gw_iadd (q := 154) hc dX2_orderEnd_153 rfl ?_
      exact gw_iret hc dX2_orderEnd_154 ⟨_, rfl, ⟨by unfold oeF; (repeat' split) <;> omega, rfl⟩⟩
    · skip
      refine gw_bipush (q := 146) hc dX2_orderEnd_144 rfl (by decide) ?_
      refine gw_iload_n (q := 147) hc dX2_orderEnd_146 rfl rfl xg_1 ?_
      refine gw_isub (q := 148) hc dX2_orderEnd_147 rfl ?_
      refine gw_goto (q := 154) hc dX2_orderEnd_148 (by decide) ?_
      exact gw_iret hc dX2_orderEnd_154 ⟨_, rfl, ⟨by unfold oeF; (repeat' split) <;> omega, rfl⟩⟩
  · refine gw_lookup (t := 84) hc dX2_orderEnd_5 (by omega) (by decide) (by rw [w5] <;> rfl) (by decide) ?_
    refine gw_aload_n (q := 85) hc dX2_orderEnd_84 rfl rfl xg_0 ?_
    refine gw_iload_n (q := 86) hc dX2_orderEnd_85 rfl rfl xg_1 ?_
    refine gw_iconst (q := 87) hc dX2_orderEnd_86 rfl ?_
    refine gw_iadd (q := 88) hc dX2_orderEnd_87 rfl ?_
    refine gw_callV (q := 91) (bc' := 0) (bs' := 0) (As := [_]) hc dX2_orderEnd_88 rfl q1499 mw_X2_digit (rc_o hc cE_MO (tg_m hα)) rfl rfl (m_X2_digit hα hp (by omega)) ⟨Nat.le_of_ble_eq_true rfl, Nat.le_of_ble_eq_true rfl⟩ (Nat.le_of_ble_eq_true rfl) (Nat.le_of_ble_eq_true rfl) (Nat.le_of_ble_eq_true rfl) (goI fun r88 G88 h88 => ?_)
    obtain ⟨rfl, rfl⟩ := h88
    refine gw_if_ge  (q := 94) (t := 99) hc dX2_orderEnd_91 rfl (by decide) (by omega) (fun c91 => ?_) (fun c91 => ?_)
    · skip
      refine gw_aload_n (q := 100) hc dX2_orderEnd_99 rfl rfl xg_0 ?_
      refine gw_iload_n (q := 101) hc dX2_orderEnd_100 rfl rfl xg_1 ?_
      refine gw_iconst (q := 102) hc dX2_orderEnd_101 rfl ?_
      refine gw_iadd (q := 103) hc dX2_orderEnd_102 rfl ?_
      refine gw_callV (q := 106) (bc' := 0) (bs' := 0) (As := [_]) hc dX2_orderEnd_103 rfl q1495 mw_X2_code (rc_o hc cE_MO (tg_m hα)) rfl rfl (m_X2_code hα hp (by omega)) ⟨Nat.le_of_ble_eq_true rfl, Nat.le_of_ble_eq_true rfl⟩ (Nat.le_of_ble_eq_true rfl) (Nat.le_of_ble_eq_true rfl) (Nat.le_of_ble_eq_true rfl) (goI fun r103 G103 h103 => ?_)
      obtain ⟨rfl, rfl⟩ := h103
      have hc2 := cd_r hp (q := q + 2) (by omega)
      refine gw_bipush (q := 108) hc dX2_orderEnd_106 rfl (by decide) ?_
      refine gw_icmp_ne  (q := 111) (t := 121) hc dX2_orderEnd_108 rfl (by decide) (by omega) (by omega) (fun c108 => ?_) (fun c108 => ?_)
      · skip
        refine gw_bipush (q := 123) hc dX2_orderEnd_121 rfl (by decide) ?_
        refine gw_iload_n (q := 124) hc dX2_orderEnd_123 rfl rfl xg_1 ?_
        refine gw_isub (q := 125) hc dX2_orderEnd_124 rfl ?_
        exact gw_iret hc dX2_orderEnd_125 ⟨_, rfl, ⟨by unfold oeF; (repeat' split) <;> omega, rfl⟩⟩
      · skip
        refine gw_aload_n (q := 112) hc dX2_orderEnd_111 rfl rfl xg_0 ?_
        refine gw_iload_n (q := 113) hc dX2_orderEnd_112 rfl rfl xg_1 ?_
        refine gw_iconst (q := 114) hc dX2_orderEnd_113 rfl ?_
        refine gw_iadd (q := 115) hc dX2_orderEnd_114 rfl ?_
        refine gw_callV (q := 118) (bc' := 0) (bs' := 0) (As := [_]) hc dX2_orderEnd_115 rfl q1503 mw_X2_numberEnd (rc_o hc cE_MO (tg_m hα)) rfl rfl (m_X2_numberEnd hα hp (by omega)) ⟨Nat.le_of_ble_eq_true rfl, Nat.le_of_ble_eq_true rfl⟩ (Nat.le_of_ble_eq_true rfl) (Nat.le_of_ble_eq_true rfl) (Nat.le_of_ble_eq_true rfl) (goI fun r115 G115 h115 => ?_)
        obtain ⟨rfl, rfl⟩ := h115
        refine gw_goto (q := 125) hc dX2_orderEnd_118 (by decide) ?_
        exact gw_iret hc dX2_orderEnd_125 ⟨_, rfl, ⟨by unfold oeF; (repeat' split) <;> omega, rfl⟩⟩
    · skip
      refine gw_bipush (q := 96) hc dX2_orderEnd_94 rfl (by decide) ?_
      refine gw_iload_n (q := 97) hc dX2_orderEnd_96 rfl rfl xg_1 ?_
      refine gw_isub (q := 98) hc dX2_orderEnd_97 rfl ?_
      exact gw_iret hc dX2_orderEnd_98 ⟨_, rfl, ⟨by unfold oeF; (repeat' split) <;> omega, rfl⟩⟩
  · refine gw_lookup (t := 64) hc dX2_orderEnd_5 (by omega) (by decide) (by rw [w5] <;> rfl) (by decide) ?_
    refine gw_aload_n (q := 65) hc dX2_orderEnd_64 rfl rfl xg_0 ?_
    refine gw_iload_n (q := 66) hc dX2_orderEnd_65 rfl rfl xg_1 ?_
    refine gw_iconst (q := 67) hc dX2_orderEnd_66 rfl ?_
    refine gw_iadd (q := 68) hc dX2_orderEnd_67 rfl ?_
    refine gw_callV (q := 71) (bc' := 0) (bs' := 0) (As := [_]) hc dX2_orderEnd_68 rfl q1499 mw_X2_digit (rc_o hc cE_MO (tg_m hα)) rfl rfl (m_X2_digit hα hp (by omega)) ⟨Nat.le_of_ble_eq_true rfl, Nat.le_of_ble_eq_true rfl⟩ (Nat.le_of_ble_eq_true rfl) (Nat.le_of_ble_eq_true rfl) (Nat.le_of_ble_eq_true rfl) (goI fun r68 G68 h68 => ?_)
    obtain ⟨rfl, rfl⟩ := h68
    refine gw_if_ge  (q := 74) (t := 80) hc dX2_orderEnd_71 rfl (by decide) (by omega) (fun c71 => ?_) (fun c71 => ?_)
    · skip
      refine gw_iload_n (q := 81) hc dX2_orderEnd_80 rfl rfl xg_1 ?_
      refine gw_iconst (q := 82) hc dX2_orderEnd_81 rfl ?_
      refine gw_iadd (q := 83) hc dX2_orderEnd_82 rfl ?_
      exact gw_iret hc dX2_orderEnd_83 ⟨_, rfl, ⟨by unfold oeF; (repeat' split) <;> omega, rfl⟩⟩
    · skip
      refine gw_iload_n (q := 75) hc dX2_orderEnd_74 rfl rfl xg_1 ?_
      refine gw_iconst (q := 76) hc dX2_orderEnd_75 rfl ?_
      refine gw_iadd (q := 77) hc dX2_orderEnd_76 rfl ?_
      refine gw_goto (q := 83) hc dX2_orderEnd_77 (by decide) ?_
      exact gw_iret hc dX2_orderEnd_83 ⟨_, rfl, ⟨by unfold oeF; (repeat' split) <;> omega, rfl⟩⟩
  · refine gw_lookup (t := 126) hc dX2_orderEnd_5 (by omega) (by decide) (by rw [w5] <;> rfl) (by decide) ?_
    refine gw_aload_n (q := 127) hc dX2_orderEnd_126 rfl rfl xg_0 ?_
    refine gw_iload_n (q := 128) hc dX2_orderEnd_127 rfl rfl xg_1 ?_
    refine gw_iconst (q := 129) hc dX2_orderEnd_128 rfl ?_
    refine gw_iadd (q := 130) hc dX2_orderEnd_129 rfl ?_
    refine gw_callV (q := 133) (bc' := 0) (bs' := 0) (As := [_]) hc dX2_orderEnd_130 rfl q1503 mw_X2_numberEnd (rc_o hc cE_MO (tg_m hα)) rfl rfl (m_X2_numberEnd hα hp (by omega)) ⟨Nat.le_of_ble_eq_true rfl, Nat.le_of_ble_eq_true rfl⟩ (Nat.le_of_ble_eq_true rfl) (Nat.le_of_ble_eq_true rfl) (Nat.le_of_ble_eq_true rfl) (goI fun r130 G130 h130 => ?_)
    obtain ⟨rfl, rfl⟩ := h130
    exact gw_iret hc dX2_orderEnd_133 ⟨_, rfl, ⟨by unfold oeF; (repeat' split) <;> omega, rfl⟩⟩
  · refine gw_lookup (t := 126) hc dX2_orderEnd_5 (by omega) (by decide) (by rw [w5] <;> rfl) (by decide) ?_
    refine gw_aload_n (q := 127) hc dX2_orderEnd_126 rfl rfl xg_0 ?_
    refine gw_iload_n (q := 128) hc dX2_orderEnd_127 rfl rfl xg_1 ?_
    refine gw_iconst (q := 129) hc dX2_orderEnd_128 rfl ?_
    refine gw_iadd (q := 130) hc dX2_orderEnd_129 rfl ?_
    refine gw_callV (q := 133) (bc' := 0) (bs' := 0) (As := [_]) hc dX2_orderEnd_130 rfl q1503 mw_X2_numberEnd (rc_o hc cE_MO (tg_m hα)) rfl rfl (m_X2_numberEnd hα hp (by omega)) ⟨Nat.le_of_ble_eq_true rfl, Nat.le_of_ble_eq_true rfl⟩ (Nat.le_of_ble_eq_true rfl) (Nat.le_of_ble_eq_true rfl) (Nat.le_of_ble_eq_true rfl) (goI fun r130 G130 h130 => ?_)
    obtain ⟨rfl, rfl⟩ := h130
    exact gw_iret hc dX2_orderEnd_133 ⟨_, rfl, ⟨by unfold oeF; (repeat' split) <;> omega, rfl⟩⟩
  · refine gw_lookup (t := 134) hc dX2_orderEnd_5 (by omega) (by decide) (by rw [w5] <;> rfl) (by decide) ?_
    refine gw_aload_n (q := 135) hc dX2_orderEnd_134 rfl rfl xg_0 ?_
    refine gw_iload_n (q := 136) hc dX2_orderEnd_135 rfl rfl xg_1 ?_
    refine gw_iconst (q := 137) hc dX2_orderEnd_136 rfl ?_
    refine gw_iadd (q := 138) hc dX2_orderEnd_137 rfl ?_
    refine gw_callV (q := 141) (bc' := 0) (bs' := 0) (As := [_]) hc dX2_orderEnd_138 rfl q1499 mw_X2_digit (rc_o hc cE_MO (tg_m hα)) rfl rfl (m_X2_digit hα hp (by omega)) ⟨Nat.le_of_ble_eq_true rfl, Nat.le_of_ble_eq_true rfl⟩ (Nat.le_of_ble_eq_true rfl) (Nat.le_of_ble_eq_true rfl) (Nat.le_of_ble_eq_true rfl) (goI fun r138 G138 h138 => ?_)
    obtain ⟨rfl, rfl⟩ := h138
    refine gw_if_ge  (q := 144) (t := 151) hc dX2_orderEnd_141 rfl (by decide) (by omega) (fun c141 => ?_) (fun c141 => ?_)
    · skip
      refine gw_iload_n (q := 152) hc dX2_orderEnd_151 rfl rfl xg_1 ?_
      refine gw_iconst (q := 153) hc dX2_orderEnd_152 rfl ?_
      refine gw_iadd (q := 154) hc dX2_orderEnd_153 rfl ?_
      exact gw_iret hc dX2_orderEnd_154 ⟨_, rfl, ⟨by unfold oeF; (repeat' split) <;> omega, rfl⟩⟩
    · skip
      refine gw_bipush (q := 146) hc dX2_orderEnd_144 rfl (by decide) ?_
      refine gw_iload_n (q := 147) hc dX2_orderEnd_146 rfl rfl xg_1 ?_
      refine gw_isub (q := 148) hc dX2_orderEnd_147 rfl ?_
      refine gw_goto (q := 154) hc dX2_orderEnd_148 (by decide) ?_
      exact gw_iret hc dX2_orderEnd_154 ⟨_, rfl, ⟨by unfold oeF; (repeat' split) <;> omega, rfl⟩⟩
  · refine gw_lookup (off := 150) (t := 155) hc dX2_orderEnd_5 (by omega) (by decide) (by simp only [Op.lookupswitch.offset_cons]; (repeat rw [if_neg (by omega)]); first | done | rfl) (by decide) ?_
    refine gw_iconst (q := 156) hc dX2_orderEnd_155 rfl ?_
    refine gw_iload_n (q := 157) hc dX2_orderEnd_156 rfl rfl xg_1 ?_
    refine gw_isub (q := 158) hc dX2_orderEnd_157 rfl ?_
    exact gw_iret hc dX2_orderEnd_158 ⟨_, rfl, ⟨by unfold oeF; (repeat' split) <;> omega, rfl⟩⟩

theorem mw_X2_fault : mV "EnergyDiscsModel" yX2_fault cX2_fault 4 (some FieldType.int) 0 := ⟨⟨rfl, by decide +kernel, by decide +kernel, by decide +kernel⟩, q1488, q1489, q82, q1490⟩
set_option maxHeartbeats 4000000 in
theorem m_X2_fault {l : Launch} {D : va_G} {X : Nat → Nat} {b0 : Nat} {α : Nat → Nat} {S P L V Pd : Int → Int} {kn ln : Int} {G : gM} (hα : aN α)  (hp : padW Pd ln) : gMet l D X b0 yX2_fault cX2_fault 4 (some FieldType.int) (rmE 4 0 0) [.ref (α 0)] (tG D α S P kn L V Pd ln G) (eI (faF Pd ln 80 0) (tG D α S P kn L V Pd ln G)) := by
  refine gm_start (own := "EnergyDiscsModel") (lv := [some (.ref (α 0)), none, none, none]) (by decide +kernel) rfl (Nat.le_of_ble_eq_true rfl) rfl (fun p_ e_ s_ m_ args_ below_ meth_ c_ hc hnm => ?_)
  refine gw_iconst (q := 1) hc dX2_fault_0 rfl ?_
  refine gw_istore_n (q := 2) hc dX2_fault_1 rfl rfl xs_1 (by decide) (n2p xg_0 rfl) ?_
  refine gw_iconst (q := 3) hc dX2_fault_2 rfl ?_
  refine gw_istore_n (q := 4) hc dX2_fault_3 rfl rfl xs_2 (by decide) (n2p xg_1 rfl) ?_
  refine gw_loop (σ := Nat × Int) (fun x => (x.1 ≤ 80 ∧ 0 ≤ x.2 ∧ x.2 ≤ 80) ∧ faF Pd ln (80 - x.1) x.2 = faF Pd ln 80 0) (fun x => 80 - x.1) (fun x => tG D α S P kn L V Pd ln G) (fun x => [some (.ref (α 0)), some (.int (iI x.2)), some (.int (iI (x.1 : Int))), none]) ?_ (0, 0) ⟨⟨by dsimp only; omega, by dsimp only; omega, by dsimp only; omega⟩, rfl⟩
  rintro ⟨k, q⟩ hI4 ih4
  try dsimp only at hI4 ⊢
  have hor := oeF_r (Pd := Pd) (ln := ln) (q := q) hI4.1.2.1
  have hl := hp.1
  refine gw_iload_n (q := 5) hc dX2_fault_4 rfl rfl xg_2 ?_
  refine gw_bipush (q := 7) hc dX2_fault_5 rfl (by decide) ?_
  refine gw_icmp_ge  (q := 10) (t := 57) hc dX2_fault_7 rfl (by decide) (by omega) (by omega) (fun c7 => ?_) (fun c7 => ?_)
  · skip
    refine gw_bipush (q := 59) hc dX2_fault_57 rfl (by decide) ?_
    exact gw_iret hc dX2_fault_59 ⟨_, rfl, ⟨by rw [← hI4.2, show 80 - k = 0 by omega]; rfl, rfl⟩⟩
  · have hst := hI4.2
    rw [show 80 - k = (80 - (k + 1)) + 1 by omega] at hst
    change (if _ then _ else _) = _ at hst
    refine gw_aload_n (q := 11) hc dX2_fault_10 rfl rfl xg_0 ?_
    refine gw_iload_n (q := 12) hc dX2_fault_11 rfl rfl xg_1 ?_
    refine gw_callV (q := 15) (bc' := 0) (bs' := 0) (As := [_]) hc dX2_fault_12 rfl q1491 mw_X2_orderEnd (rc_o hc cE_MO (tg_m hα)) rfl rfl (m_X2_orderEnd hα hp (by omega)) ⟨Nat.le_of_ble_eq_true rfl, Nat.le_of_ble_eq_true rfl⟩ (Nat.le_of_ble_eq_true rfl) (Nat.le_of_ble_eq_true rfl) (Nat.le_of_ble_eq_true rfl) (goI fun r12 G12 h12 => ?_)
    obtain ⟨rfl, rfl⟩ := h12
    refine gw_istore_n (q := 16) hc dX2_fault_15 rfl rfl xs_3 (by decide) (n2p xg_2 rfl) ?_
    refine gw_iload_n (q := 17) hc dX2_fault_16 rfl rfl xg_3 ?_
    refine gw_if_ge  (q := 20) (t := 24) hc dX2_fault_17 rfl (by decide) (by omega) (fun c17 => ?_) (fun c17 => ?_)
    · skip
      refine gw_iload_n (q := 25) hc dX2_fault_24 rfl rfl xg_3 ?_
      refine gw_aload_n (q := 26) hc dX2_fault_25 rfl rfl xg_0 ?_
      refine gw_get (q := 29) hc dX2_fault_26 rfl cE_MO 6 (by decide) q1258 (fun _ h => h) (tg_m hα) xg_6 ?_
      refine gw_icmp_ne  (q := 32) (t := 35) hc dX2_fault_29 rfl (by decide) (by omega) (by omega) (fun c29 => ?_) (fun c29 => ?_)
      · skip
        refine gw_aload_n (q := 36) hc dX2_fault_35 rfl rfl xg_0 ?_
        refine gw_iload_n (q := 37) hc dX2_fault_36 rfl rfl xg_3 ?_
        refine gw_callV (q := 40) (bc' := 0) (bs' := 0) (As := [_]) hc dX2_fault_37 rfl q1495 mw_X2_code (rc_o hc cE_MO (tg_m hα)) rfl rfl (m_X2_code hα hp (by omega)) ⟨Nat.le_of_ble_eq_true rfl, Nat.le_of_ble_eq_true rfl⟩ (Nat.le_of_ble_eq_true rfl) (Nat.le_of_ble_eq_true rfl) (Nat.le_of_ble_eq_true rfl) (goI fun r37 G37 h37 => ?_)
        obtain ⟨rfl, rfl⟩ := h37
        have hc2 := cd_r hp (q := oeF Pd ln q) (by omega)
        have hco := cd_o (Pd := Pd) (ln := ln) (q := oeF Pd ln q) (c := 59)
        refine gw_bipush (q := 42) hc dX2_fault_40 rfl (by decide) ?_
        refine gw_icmp_eq  (q := 45) (t := 47) hc dX2_fault_42 rfl (by decide) (by omega) (by omega) (fun c42 => ?_) (fun c42 => ?_)
        · skip
          refine gw_iload_n (q := 48) hc dX2_fault_47 rfl rfl xg_3 ?_
          refine gw_iconst (q := 49) hc dX2_fault_48 rfl ?_
          refine gw_iadd (q := 50) hc dX2_fault_49 rfl ?_
          refine gw_istore_n (q := 51) hc dX2_fault_50 rfl rfl xs_1 (by decide) (n2p xg_0 rfl) ?_
          refine gw_iinc (q := 54) hc dX2_fault_51 rfl xg_2 xs_2 (by decide) (n2p xg_1 rfl) ?_
          refine gw_goto (q := 4) hc dX2_fault_54 (by decide) ?_
          refine gw_drop (i := 3) xs_3 ?_
          exact ih4 (k + 1, oeF Pd ln q + 1) (by dsimp only; exact ⟨⟨by omega, by omega, by omega⟩, by rw [← hst, if_neg (by omega), if_neg (by omega), if_neg (by omega)]⟩) (by dsimp only; omega)
        · skip
          refine gw_iload_n (q := 46) hc dX2_fault_45 rfl rfl xg_3 ?_
          exact gw_iret hc dX2_fault_46 ⟨_, rfl, ⟨by rw [← hst, if_neg (by omega), if_neg (by omega), if_pos (by omega)], rfl⟩⟩
      · skip
        refine gw_bipush (q := 34) hc dX2_fault_32 rfl (by decide) ?_
        exact gw_iret hc dX2_fault_34 ⟨_, rfl, ⟨by rw [← hst, if_neg (by omega), if_pos (by omega)], rfl⟩⟩
    · skip
      refine gw_iconst (q := 21) hc dX2_fault_20 rfl ?_
      refine gw_iload_n (q := 22) hc dX2_fault_21 rfl rfl xg_3 ?_
      refine gw_isub (q := 23) hc dX2_fault_22 rfl ?_
      exact gw_iret hc dX2_fault_23 ⟨_, rfl, ⟨by rw [← hst, if_pos (by omega)], rfl⟩⟩

