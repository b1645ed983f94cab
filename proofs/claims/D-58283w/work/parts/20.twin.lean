/-! ===== THE TWIN: its six cells ===== -/
set_option maxRecDepth 100000
/-- answers: a number, a long, nothing; the heap behind -/
abbrev eI (r0 : Int) (G0 : gM) : Option Value → gM → Prop := pI fun r G' => r = r0 ∧ G' = G0
abbrev eJ (r0 : Int) (G0 : gM) : Option Value → gM → Prop := pJ fun r G' => r = r0 ∧ G' = G0
abbrev eV (G0 : gM) : Option Value → gM → Prop := pV fun G' => G' = G0
/-- a truth value: 1 or 0 -/
abbrev eB (b : Prop) (G0 : gM) : Option Value → gM → Prop := pI fun r G' => ((r = 1 ∧ b) ∨ (r = 0 ∧ ¬ b)) ∧ G' = G0
def aN (α : Nat → Nat) : Prop := [α 0, α 1, α 2, α 3, α 4, α 5].Nodup
def tG (D : va_G) (α : Nat → Nat) (S P : Int → Int) (kn : Int) (L V Pd : Int → Int) (ln : Int) (G : gM) : gM :=
  OV [(α 0, .inr (2, [.ref (α 1), .ref (α 2), .int (iI kn), .ref (α 3), .ref (α 4), .ref (α 5), .int (iI ln)])), (α 1, jA D 276 S), (α 2, jA D 828 P), (α 3, jA D 276 L), (α 4, zA D 2 V), (α 5, iA D 80 Pd)] G
section TWN
variable {D : va_G} {α : Nat → Nat} {S P L V Pd : Int → Int} {kn ln : Int} {G : gM}
theorem tg_m (h : aN α) : tG D α S P kn L V Pd ln G (α 0) = some (.inr (2, [.ref (α 1), .ref (α 2), .int (iI kn), .ref (α 3), .ref (α 4), .ref (α 5), .int (iI ln)])) := ov_get h rfl (k := 0) rfl
theorem tg_s (h : aN α) : tG D α S P kn L V Pd ln G (α 1) = some (jA D 276 S) := ov_get h rfl (k := 1) rfl
theorem tg_p (h : aN α) : tG D α S P kn L V Pd ln G (α 2) = some (jA D 828 P) := ov_get h rfl (k := 2) rfl
theorem tg_l (h : aN α) : tG D α S P kn L V Pd ln G (α 3) = some (jA D 276 L) := ov_get h rfl (k := 3) rfl
theorem tg_v (h : aN α) : tG D α S P kn L V Pd ln G (α 4) = some (zA D 2 V) := ov_get h rfl (k := 4) rfl
theorem tg_d (h : aN α) : tG D α S P kn L V Pd ln G (α 5) = some (iA D 80 Pd) := ov_get h rfl (k := 5) rfl
theorem tu_s (h : aN α) {S' : Int → Int} : gup (tG D α S P kn L V Pd ln G) (α 1) (jA D 276 S') = tG D α S' P kn L V Pd ln G := ov_set h rfl (k := 1) rfl rfl
theorem tu_p (h : aN α) {S' : Int → Int} : gup (tG D α S P kn L V Pd ln G) (α 2) (jA D 828 S') = tG D α S S' kn L V Pd ln G := ov_set h rfl (k := 2) rfl rfl
theorem tu_l (h : aN α) {S' : Int → Int} : gup (tG D α S P kn L V Pd ln G) (α 3) (jA D 276 S') = tG D α S P kn S' V Pd ln G := ov_set h rfl (k := 3) rfl rfl
theorem tu_v (h : aN α) {S' : Int → Int} : gup (tG D α S P kn L V Pd ln G) (α 4) (zA D 2 S') = tG D α S P kn L S' Pd ln G := ov_set h rfl (k := 4) rfl rfl
theorem tu_d (h : aN α) {S' : Int → Int} : gup (tG D α S P kn L V Pd ln G) (α 5) (iA D 80 S') = tG D α S P kn L V S' ln G := ov_set h rfl (k := 5) rfl rfl
theorem tu_m (h : aN α) {kn' ln' : Int} : gup (tG D α S P kn L V Pd ln G) (α 0) (.inr (2, [.ref (α 1), .ref (α 2), .int (iI kn'), .ref (α 3), .ref (α 4), .ref (α 5), .int (iI ln')])) = tG D α S P kn' L V Pd ln' G := ov_set h rfl (k := 0) rfl rfl
end TWN

/-! ===== what the twin computes: plain functions of its row ===== -/
def lowF (x : Int) : Int := if x = 3 then 100 else 0
def highF (x : Int) : Int := if x = 1 then 9 else if x = 2 then 1 else if x = 3 then 5000 else 99
/-- the row is remembered: what the past is then -/
def remR (S P : Int → Int) (kn : Int) (P' : Int → Int) (kn' : Int) : Prop :=
  kn' = (if kn = 6 then 6 else kn + 1) ∧ (∀ i, 0 ≤ i → i < 138 → P' (138 * (kn' - 1) + i) = S i) ∧ (kn = 6 → ∀ i, 0 ≤ i → i < 690 → P' i = P (138 + i)) ∧ (kn ≠ 6 → ∀ i, 0 ≤ i → i < 138 * kn → P' i = P i)
/-- the row beside is the row -/
def cpyR (S S' : Int → Int) : Prop := (∀ i, 0 ≤ i → i < 138 → S' (138 + i) = S i) ∧ ∀ i, i < 138 → S' i = S i
def thrF (S : Int → Int) (o : Int) : Nat → Int → Bool
  | 0, k => k == o
  | n + 1, k => if o < k then thrF S o n (S (11 + 13 * k)) else k == o
def thr (S : Int → Int) (k o : Int) : Bool := thrF S o 8 k
/-- the meters are a tree: each is fed through an earlier one -/
def treeW (S : Int → Int) : Prop := (0 ≤ S 7 ∧ S 7 ≤ 7) ∧ ∀ k, 0 < k → k < S 7 → 0 ≤ S (11 + 13 * k) ∧ S (11 + 13 * k) < k
def loadW (S : Int → Int) : Prop := (0 ≤ S 8 ∧ S 8 ≤ 12) ∧ ∀ j, 0 ≤ j → j < S 8 → (0 ≤ S (102 + 3 * j) ∧ S (102 + 3 * j) < S 7) ∧ (1 ≤ S (102 + 3 * j + 1) ∧ S (102 + 3 * j + 1) ≤ 4000) ∧ (S (102 + 3 * j + 2) = 0 ∨ S (102 + 3 * j + 2) = 1)
def pwF (S : Int → Int) (k : Int) : Nat → Int
  | 0 => 0
  | j + 1 => pwF S k j + (if S (102 + 3 * j + 2) = 1 ∧ thr S (S (102 + 3 * j)) k = true then S (102 + 3 * j + 1) else 0)
def pw (S : Int → Int) (k : Int) : Int := pwF S k (S 8).toNat
abbrev ngt (t : Int) : Prop := 1320 ≤ t % 1440 ∨ t % 1440 < 360
def goF (S : Int → Int) (p m w : Int) : Int :=
  if S (p + 0) < w then S (p + 11 + 13 * m + 1) + (if S (p + 11 + 13 * m + 7) = 1 then w * S (p + 11 + 13 * m + 2) / 100 / 2 else w * S (p + 11 + 13 * m + 2) / 100)
  else if 0 < w ∨ S (p + 11 + 13 * m + 7) = 1 then S (p + 11 + 13 * m + 1)
  else if S (p + 2) = 0 then S (p + 11 + 13 * m + 1) + S (p + 1)
  else if 6000 < (if S (p + 11 + 13 * m + 1) = 0 then 0 else S (p + 11 + 13 * m + 1) + S (p + 1)) then 6000
  else if S (p + 11 + 13 * m + 1) = 0 then 0 else S (p + 11 + 13 * m + 1) + S (p + 1)
theorem thrF_fuel {S : Int → Int} (hT : treeW S) {o : Int} (ho : 0 ≤ o) : ∀ (n : Nat) (k : Int), 0 ≤ k → k < S 7 → k < n → ∀ m : Nat, k < m → thrF S o n k = thrF S o m k
  | 0, k, h0, _, h, _, _ => by omega
  | n + 1, k, h0, h7, h, 0, h2 => by omega
  | n + 1, k, h0, h7, h, m + 1, h2 => by
    simp only [thrF]
    by_cases hk : o < k
    · rw [if_pos hk, if_pos hk]
      have := hT.2 k (by omega) h7
      exact thrF_fuel hT ho n _ this.1 (by omega) (by omega) m (by omega)
    · rw [if_neg hk, if_neg hk]
theorem thr_step {S : Int → Int} (hT : treeW S) {o k : Int} (ho : 0 ≤ o) (h : o < k) (h7 : k < S 7) : thr S k o = thr S (S (11 + 13 * k)) o := by
  have ht := hT.2 k (by omega) h7
  have h8 := hT.1
  show thrF S o (7 + 1) k = thrF S o 8 _
  simp only [thrF, if_pos h]
  exact thrF_fuel hT ho 7 _ ht.1 (by omega) (by omega) 8 (by omega)
theorem thr_end {S : Int → Int} {o k : Int} (h : ¬ o < k) : thr S k o = (k == o) := by
  show thrF S o (7 + 1) k = _
  simp only [thrF, if_neg h]
theorem pwF_succ {S : Int → Int} {k j : Int} (h : 0 ≤ j) : pwF S k (j + 1).toNat = pwF S k j.toNat + (if S (102 + 3 * j + 2) = 1 ∧ thr S (S (102 + 3 * j)) k = true then S (102 + 3 * j + 1) else 0) := by
  have e : (j + 1).toNat = j.toNat + 1 := by omega
  have e2 : ((j.toNat : Nat) : Int) = j := by omega
  rw [e]
  show pwF S k j.toNat + (if S (102 + 3 * (j.toNat : Int) + 2) = 1 ∧ thr S (S (102 + 3 * (j.toNat : Int))) k = true then S (102 + 3 * (j.toNat : Int) + 1) else 0) = _
  rw [e2]

theorem mw_X2_in : mS yX2_in cX2_in 3 (some FieldType.boolean) 3 := ⟨⟨by decide +kernel, by decide +kernel, by decide +kernel⟩, q1281, q82, q1282⟩
set_option maxHeartbeats 4000000 in
theorem m_X2_in {l : Launch} {D : va_G} {X : Nat → Nat} {b0 : Nat} {G : gM} {v : Int} {lo : Int} {hi : Int} (hv : rI v) (hlo : rI lo) (hhi : rI hi) : gMet l D X b0 yX2_in cX2_in 3 (some FieldType.boolean) (rmE 0 0 0) [.int (iI v), .int (iI lo), .int (iI hi)] G (eB (lo ≤ v ∧ v ≤ hi) G) := by
  refine gm_start (own := "EnergyDiscsModel") (lv := [some (.int (iI v)), some (.int (iI lo)), some (.int (iI hi))]) (by decide +kernel) rfl (Nat.le_of_ble_eq_true rfl) rfl (fun p_ e_ s_ m_ args_ below_ meth_ c_ hc hnm => ?_)
  refine gw_iload_n (q := 1) hc dX2_in_0 rfl rfl xg_0 ?_
  refine gw_iload_n (q := 2) hc dX2_in_1 rfl rfl xg_1 ?_
  refine gw_icmp_lt  (q := 5) (t := 14) hc dX2_in_2 rfl (by decide) (by omega) (by omega) (fun c2 => ?_) (fun c2 => ?_)
  · skip
    refine gw_iconst (q := 15) hc dX2_in_14 rfl ?_
    exact gw_zret hc (by first | exact Or.inl rfl | exact Or.inr rfl | omega) dX2_in_15 ⟨_, rfl, ⟨by omega, rfl⟩⟩
  · skip
    refine gw_iload_n (q := 6) hc dX2_in_5 rfl rfl xg_0 ?_
    refine gw_iload_n (q := 7) hc dX2_in_6 rfl rfl xg_2 ?_
    refine gw_icmp_gt  (q := 10) (t := 14) hc dX2_in_7 rfl (by decide) (by omega) (by omega) (fun c7 => ?_) (fun c7 => ?_)
    · skip
      refine gw_iconst (q := 15) hc dX2_in_14 rfl ?_
      exact gw_zret hc (by first | exact Or.inl rfl | exact Or.inr rfl | omega) dX2_in_15 ⟨_, rfl, ⟨by omega, rfl⟩⟩
    · skip
      refine gw_iconst (q := 11) hc dX2_in_10 rfl ?_
      refine gw_goto (q := 15) hc dX2_in_11 (by decide) ?_
      exact gw_zret hc (by first | exact Or.inl rfl | exact Or.inr rfl | omega) dX2_in_15 ⟨_, rfl, ⟨by omega, rfl⟩⟩

theorem mw_X2_at : mS yX2_at cX2_at 2 (some FieldType.int) 2 := ⟨⟨by decide +kernel, by decide +kernel, by decide +kernel⟩, q1314, q82, q1315⟩
set_option maxHeartbeats 4000000 in
theorem m_X2_at {l : Launch} {D : va_G} {X : Nat → Nat} {b0 : Nat} {G : gM} {p : Int} {k : Int}  : gMet l D X b0 yX2_at cX2_at 2 (some FieldType.int) (rmE 0 0 0) [.int (iI p), .int (iI k)] G (eI (p + 11 + 13 * k) G) := by
  refine gm_start (own := "EnergyDiscsModel") (lv := [some (.int (iI p)), some (.int (iI k))]) (by decide +kernel) rfl (Nat.le_of_ble_eq_true rfl) rfl (fun p_ e_ s_ m_ args_ below_ meth_ c_ hc hnm => ?_)
  refine gw_iload_n (q := 1) hc dX2_at_0 rfl rfl xg_0 ?_
  refine gw_bipush (q := 3) hc dX2_at_1 rfl (by decide) ?_
  refine gw_iadd (q := 4) hc dX2_at_3 rfl ?_
  refine gw_bipush (q := 6) hc dX2_at_4 rfl (by decide) ?_
  refine gw_iload_n (q := 7) hc dX2_at_6 rfl rfl xg_1 ?_
  refine gw_imul (q := 8) hc dX2_at_7 rfl ?_
  refine gw_iadd (q := 9) hc dX2_at_8 rfl ?_
  exact gw_iret hc dX2_at_9 ⟨_, rfl, ⟨rfl, rfl⟩⟩

theorem mw_X2_num : mV "EnergyDiscsModel" yX2_num cX2_num 2 (some FieldType.int) 1 := ⟨⟨rfl, by decide +kernel, by decide +kernel, by decide +kernel⟩, q1295, qs41, q82, q1296⟩
set_option maxHeartbeats 4000000 in
theorem m_X2_num {l : Launch} {D : va_G} {X : Nat → Nat} {b0 : Nat} {α : Nat → Nat} {S P L V Pd : Int → Int} {kn ln : Int} {G : gM} (hα : aN α) {w : Int} (hw : 0 ≤ w ∧ w < 276) : gMet l D X b0 yX2_num cX2_num 2 (some FieldType.int) (rmE 0 0 0) [.ref (α 0), .int (iI w)] (tG D α S P kn L V Pd ln G) (eI (S w) (tG D α S P kn L V Pd ln G)) := by
  refine gm_start (own := "EnergyDiscsModel") (lv := [some (.ref (α 0)), some (.int (iI w))]) (by decide +kernel) rfl (Nat.le_of_ble_eq_true rfl) rfl (fun p_ e_ s_ m_ args_ below_ meth_ c_ hc hnm => ?_)
  refine gw_aload_n (q := 1) hc dX2_num_0 rfl rfl xg_0 ?_
  refine gw_get (q := 4) hc dX2_num_1 rfl cE_MO 0 (by decide) q1252 (fun _ h => h) (tg_m hα) xg_0 ?_
  refine gw_iload_n (q := 5) hc dX2_num_4 rfl rfl xg_1 ?_
  refine gw_lald (q := 6) hc dX2_num_5 rfl (tg_s hα) (by omega) (by omega) ?_
  refine gw_l2i (q := 7) hc dX2_num_6 rfl ?_
  exact gw_iret hc dX2_num_7 ⟨_, rfl, ⟨rfl, rfl⟩⟩

theorem mw_X2_isMeter : mV "EnergyDiscsModel" yX2_isMeter cX2_isMeter 2 (some FieldType.boolean) 1 := ⟨⟨rfl, by decide +kernel, by decide +kernel, by decide +kernel⟩, q1307, qs43, q82, q1308⟩
set_option maxHeartbeats 4000000 in
theorem m_X2_isMeter {l : Launch} {D : va_G} {X : Nat → Nat} {b0 : Nat} {α : Nat → Nat} {S P L V Pd : Int → Int} {kn ln : Int} {G : gM} (hα : aN α) {k : Int} (hk : rI k) (h7 : 0 ≤ S 7 ∧ S 7 ≤ 7) : gMet l D X b0 yX2_isMeter cX2_isMeter 2 (some FieldType.boolean) (rmE 1 0 0) [.ref (α 0), .int (iI k)] (tG D α S P kn L V Pd ln G) (eB (0 ≤ k ∧ k < S 7) (tG D α S P kn L V Pd ln G)) := by
  refine gm_start (own := "EnergyDiscsModel") (lv := [some (.ref (α 0)), some (.int (iI k))]) (by decide +kernel) rfl (Nat.le_of_ble_eq_true rfl) rfl (fun p_ e_ s_ m_ args_ below_ meth_ c_ hc hnm => ?_)
  refine gw_iload_n (q := 1) hc dX2_isMeter_0 rfl rfl xg_1 ?_
  refine gw_iconst (q := 2) hc dX2_isMeter_1 rfl ?_
  refine gw_aload_n (q := 3) hc dX2_isMeter_2 rfl rfl xg_0 ?_
  refine gw_bipush (q := 5) hc dX2_isMeter_3 rfl (by decide) ?_
  refine gw_callV (q := 8) (bc' := 0) (bs' := 0) (As := [_]) hc dX2_isMeter_5 rfl q1293 mw_X2_num (rc_o hc cE_MO (tg_m hα)) rfl rfl (m_X2_num hα (by omega)) ⟨Nat.le_of_ble_eq_true rfl, Nat.le_of_ble_eq_true rfl⟩ (Nat.le_of_ble_eq_true rfl) (Nat.le_of_ble_eq_true rfl) (Nat.le_of_ble_eq_true rfl) (goI fun r5 G5 h5 => ?_)
  obtain ⟨rfl, rfl⟩ := h5
  refine gw_iconst (q := 9) hc dX2_isMeter_8 rfl ?_
  refine gw_isub (q := 10) hc dX2_isMeter_9 rfl ?_
  refine gw_callS (q := 13) (bc' := 0) (bs' := 0) (As := [_, _, _]) hc dX2_isMeter_10 rfl q1280 mw_X2_in rfl rfl (m_X2_in hk (by omega) (by omega)) ⟨Nat.le_of_ble_eq_true rfl, Nat.le_of_ble_eq_true rfl⟩ (Nat.le_of_ble_eq_true rfl) (Nat.le_of_ble_eq_true rfl) (Nat.le_of_ble_eq_true rfl) (goI fun r10 G10 h10 => ?_)
  obtain ⟨b10, rfl⟩ := h10
  exact gw_zret hc (by first | exact Or.inl rfl | exact Or.inr rfl | omega) dX2_isMeter_13 ⟨_, rfl, ⟨by omega, rfl⟩⟩

theorem mw_X2_isLoad : mV "EnergyDiscsModel" yX2_isLoad cX2_isLoad 2 (some FieldType.boolean) 1 := ⟨⟨rfl, by decide +kernel, by decide +kernel, by decide +kernel⟩, q1336, qs47, q82, q1337⟩
set_option maxHeartbeats 4000000 in
theorem m_X2_isLoad {l : Launch} {D : va_G} {X : Nat → Nat} {b0 : Nat} {α : Nat → Nat} {S P L V Pd : Int → Int} {kn ln : Int} {G : gM} (hα : aN α) {k : Int} (hk : rI k) (h8 : 0 ≤ S 8 ∧ S 8 ≤ 12) : gMet l D X b0 yX2_isLoad cX2_isLoad 2 (some FieldType.boolean) (rmE 1 0 0) [.ref (α 0), .int (iI k)] (tG D α S P kn L V Pd ln G) (eB (0 ≤ k ∧ k < S 8) (tG D α S P kn L V Pd ln G)) := by
  refine gm_start (own := "EnergyDiscsModel") (lv := [some (.ref (α 0)), some (.int (iI k))]) (by decide +kernel) rfl (Nat.le_of_ble_eq_true rfl) rfl (fun p_ e_ s_ m_ args_ below_ meth_ c_ hc hnm => ?_)
  refine gw_iload_n (q := 1) hc dX2_isLoad_0 rfl rfl xg_1 ?_
  refine gw_iconst (q := 2) hc dX2_isLoad_1 rfl ?_
  refine gw_aload_n (q := 3) hc dX2_isLoad_2 rfl rfl xg_0 ?_
  refine gw_bipush (q := 5) hc dX2_isLoad_3 rfl (by decide) ?_
  refine gw_callV (q := 8) (bc' := 0) (bs' := 0) (As := [_]) hc dX2_isLoad_5 rfl q1293 mw_X2_num (rc_o hc cE_MO (tg_m hα)) rfl rfl (m_X2_num hα (by omega)) ⟨Nat.le_of_ble_eq_true rfl, Nat.le_of_ble_eq_true rfl⟩ (Nat.le_of_ble_eq_true rfl) (Nat.le_of_ble_eq_true rfl) (Nat.le_of_ble_eq_true rfl) (goI fun r5 G5 h5 => ?_)
  obtain ⟨rfl, rfl⟩ := h5
  refine gw_iconst (q := 9) hc dX2_isLoad_8 rfl ?_
  refine gw_isub (q := 10) hc dX2_isLoad_9 rfl ?_
  refine gw_callS (q := 13) (bc' := 0) (bs' := 0) (As := [_, _, _]) hc dX2_isLoad_10 rfl q1280 mw_X2_in rfl rfl (m_X2_in hk (by omega) (by omega)) ⟨Nat.le_of_ble_eq_true rfl, Nat.le_of_ble_eq_true rfl⟩ (Nat.le_of_ble_eq_true rfl) (Nat.le_of_ble_eq_true rfl) (Nat.le_of_ble_eq_true rfl) (goI fun r10 G10 h10 => ?_)
  obtain ⟨b10, rfl⟩ := h10
  exact gw_zret hc (by first | exact Or.inl rfl | exact Or.inr rfl | omega) dX2_isLoad_13 ⟨_, rfl, ⟨by omega, rfl⟩⟩

theorem mw_X2_its : mV "EnergyDiscsModel" yX2_its cX2_its 3 (some FieldType.int) 2 := ⟨⟨rfl, by decide +kernel, by decide +kernel, by decide +kernel⟩, q1352, qs50, q82, q1353⟩
set_option maxHeartbeats 4000000 in
theorem m_X2_its {l : Launch} {D : va_G} {X : Nat → Nat} {b0 : Nat} {α : Nat → Nat} {S P L V Pd : Int → Int} {kn ln : Int} {G : gM} (hα : aN α) {k : Int} {j : Int} (hk : 0 ≤ 11 + 13 * k + j ∧ 11 + 13 * k + j < 276) : gMet l D X b0 yX2_its cX2_its 3 (some FieldType.int) (rmE 1 0 0) [.ref (α 0), .int (iI k), .int (iI j)] (tG D α S P kn L V Pd ln G) (eI (S (11 + 13 * k + j)) (tG D α S P kn L V Pd ln G)) := by
  refine gm_start (own := "EnergyDiscsModel") (lv := [some (.ref (α 0)), some (.int (iI k)), some (.int (iI j))]) (by decide +kernel) rfl (Nat.le_of_ble_eq_true rfl) rfl (fun p_ e_ s_ m_ args_ below_ meth_ c_ hc hnm => ?_)
  refine gw_aload_n (q := 1) hc dX2_its_0 rfl rfl xg_0 ?_
  refine gw_get (q := 4) hc dX2_its_1 rfl cE_MO 0 (by decide) q1252 (fun _ h => h) (tg_m hα) xg_0 ?_
  refine gw_iconst (q := 5) hc dX2_its_4 rfl ?_
  refine gw_iload_n (q := 6) hc dX2_its_5 rfl rfl xg_1 ?_
  refine gw_callS (q := 9) (bc' := 0) (bs' := 0) (As := [_, _]) hc dX2_its_6 rfl q1313 mw_X2_at rfl rfl (m_X2_at) ⟨Nat.le_of_ble_eq_true rfl, Nat.le_of_ble_eq_true rfl⟩ (Nat.le_of_ble_eq_true rfl) (Nat.le_of_ble_eq_true rfl) (Nat.le_of_ble_eq_true rfl) (goI fun r6 G6 h6 => ?_)
  obtain ⟨rfl, rfl⟩ := h6
  refine gw_iload_n (q := 10) hc dX2_its_9 rfl rfl xg_2 ?_
  refine gw_iadd (q := 11) hc dX2_its_10 rfl ?_
  refine gw_lald (q := 12) hc dX2_its_11 rfl (tg_s hα) (by omega) (by omega) ?_
  refine gw_l2i (q := 13) hc dX2_its_12 rfl ?_
  exact gw_iret hc dX2_its_13 ⟨_, rfl, ⟨congrArg S (by omega), rfl⟩⟩

theorem mw_X2_lowOf : mS yX2_lowOf cX2_lowOf 1 (some FieldType.int) 1 := ⟨⟨by decide +kernel, by decide +kernel, by decide +kernel⟩, q1284, q82, q1285⟩
set_option maxHeartbeats 4000000 in
theorem m_X2_lowOf {l : Launch} {D : va_G} {X : Nat → Nat} {b0 : Nat} {G : gM} {x : Int} (hx : rI x) : gMet l D X b0 yX2_lowOf cX2_lowOf 1 (some FieldType.int) (rmE 0 0 0) [.int (iI x)] G (eI (lowF x) G) := by
  refine gm_start (own := "EnergyDiscsModel") (lv := [some (.int (iI x))]) (by decide +kernel) rfl (Nat.le_of_ble_eq_true rfl) rfl (fun p_ e_ s_ m_ args_ below_ meth_ c_ hc hnm => ?_)
  refine gw_iload_n (q := 1) hc dX2_lowOf_0 rfl rfl xg_0 ?_
  refine gw_iconst (q := 2) hc dX2_lowOf_1 rfl ?_
  refine gw_icmp_ne  (q := 5) (t := 10) hc dX2_lowOf_2 rfl (by decide) (by omega) (by omega) (fun c2 => ?_) (fun c2 => ?_)
  · skip
    refine gw_iconst (q := 11) hc dX2_lowOf_10 rfl ?_
    exact gw_iret hc dX2_lowOf_11 ⟨_, rfl, ⟨by unfold lowF; omega, rfl⟩⟩
  · skip
    refine gw_bipush (q := 7) hc dX2_lowOf_5 rfl (by decide) ?_
    refine gw_goto (q := 11) hc dX2_lowOf_7 (by decide) ?_
    exact gw_iret hc dX2_lowOf_11 ⟨_, rfl, ⟨by unfold lowF; omega, rfl⟩⟩

theorem mw_X2_highOf : mS yX2_highOf cX2_highOf 1 (some FieldType.int) 1 := ⟨⟨by decide +kernel, by decide +kernel, by decide +kernel⟩, q1287, q82, q1288⟩
set_option maxHeartbeats 4000000 in
theorem m_X2_highOf {l : Launch} {D : va_G} {X : Nat → Nat} {b0 : Nat} {G : gM} {x : Int} (hx : rI x) : gMet l D X b0 yX2_highOf cX2_highOf 1 (some FieldType.int) (rmE 0 0 0) [.int (iI x)] G (eI (highF x) G) := by
  refine gm_start (own := "EnergyDiscsModel") (lv := [some (.int (iI x))]) (by decide +kernel) rfl (Nat.le_of_ble_eq_true rfl) rfl (fun p_ e_ s_ m_ args_ below_ meth_ c_ hc hnm => ?_)
  refine gw_iload_n (q := 1) hc dX2_highOf_0 rfl rfl xg_0 ?_
  rcases (by omega : x < 1 ∨ x = 1 ∨ x = 2 ∨ x = 3 ∨ 3 < x) with w1 | w1 | w1 | w1 | w1
  · refine gw_tableOut (t := 37) hc dX2_highOf_1 (by omega) (Or.inl w1) (by decide) ?_
    refine gw_bipush (q := 39) hc dX2_highOf_37 rfl (by decide) ?_
    exact gw_iret hc dX2_highOf_39 ⟨_, rfl, ⟨by unfold highF; omega, rfl⟩⟩
  · refine gw_tableIn (t := 28) hc dX2_highOf_1 (by omega) (by omega) (by rw [w1]; rfl) (by decide) ?_
    refine gw_bipush (q := 30) hc dX2_highOf_28 rfl (by decide) ?_
    exact gw_iret hc dX2_highOf_30 ⟨_, rfl, ⟨by unfold highF; omega, rfl⟩⟩
  · refine gw_tableIn (t := 31) hc dX2_highOf_1 (by omega) (by omega) (by rw [w1]; rfl) (by decide) ?_
    refine gw_iconst (q := 32) hc dX2_highOf_31 rfl ?_
    exact gw_iret hc dX2_highOf_32 ⟨_, rfl, ⟨by unfold highF; omega, rfl⟩⟩
  · refine gw_tableIn (t := 33) hc dX2_highOf_1 (by omega) (by omega) (by rw [w1]; rfl) (by decide) ?_
    refine gw_sipush (q := 36) hc dX2_highOf_33 rfl (by decide) ?_
    exact gw_iret hc dX2_highOf_36 ⟨_, rfl, ⟨by unfold highF; omega, rfl⟩⟩
  · refine gw_tableOut (t := 37) hc dX2_highOf_1 (by omega) (Or.inr w1) (by decide) ?_
    refine gw_bipush (q := 39) hc dX2_highOf_37 rfl (by decide) ?_
    exact gw_iret hc dX2_highOf_39 ⟨_, rfl, ⟨by unfold highF; omega, rfl⟩⟩

theorem mw_X2_isNight : mS yX2_isNight cX2_isNight 4 (some FieldType.boolean) 1 := ⟨⟨by decide +kernel, by decide +kernel, by decide +kernel⟩, q1397, q82, q1398⟩
set_option maxHeartbeats 4000000 in
theorem m_X2_isNight {l : Launch} {D : va_G} {X : Nat → Nat} {b0 : Nat} {G : gM} {t : Int} (ht : 0 ≤ t ∧ t < 1000000000) : gMet l D X b0 yX2_isNight cX2_isNight 4 (some FieldType.boolean) (rmE 0 0 0) [.long (jI t)] G (eB (ngt t) G) := by
  refine gm_start (own := "EnergyDiscsModel") (lv := [some (.long (jI t)), none, none, none]) (by decide +kernel) rfl (Nat.le_of_ble_eq_true rfl) rfl (fun p_ e_ s_ m_ args_ below_ meth_ c_ hc hnm => ?_)
  refine gw_lload_n (q := 1) hc dX2_isNight_0 rfl rfl xg_0 ?_
  refine gw_ldc2 (q := 4) hc dX2_isNight_1 rfl (v := 1440) q1399 (by decide) ?_
  refine gw_lrem (q := 5) hc dX2_isNight_4 rfl (by omega) (by omega) ?_
  refine gw_lstore_n (q := 6) hc dX2_isNight_5 rfl rfl xs_2 xs_3 (by decide) (n2p xg_1 rfl) ?_
  refine gw_lload_n (q := 7) hc dX2_isNight_6 rfl rfl xg_2 ?_
  refine gw_ldc2 (q := 10) hc dX2_isNight_7 rfl (v := 1320) q1400 (by decide) ?_
  refine gw_lcmp (q := 11) hc dX2_isNight_10 rfl (by omega) (by omega) ?_
  refine gw_ifc_ge  (q := 14) (t := 22) hc dX2_isNight_11 rfl (by decide)  (fun c11 => ?_) (fun c11 => ?_)
  · skip
    refine gw_iconst (q := 23) hc dX2_isNight_22 rfl ?_
    refine gw_goto (q := 27) hc dX2_isNight_23 (by decide) ?_
    exact gw_zret hc (by first | exact Or.inl rfl | exact Or.inr rfl | omega) dX2_isNight_27 ⟨_, rfl, ⟨by unfold ngt; omega, rfl⟩⟩
  · skip
    refine gw_lload_n (q := 15) hc dX2_isNight_14 rfl rfl xg_2 ?_
    refine gw_ldc2 (q := 18) hc dX2_isNight_15 rfl (v := 360) q1401 (by decide) ?_
    refine gw_lcmp (q := 19) hc dX2_isNight_18 rfl (by omega) (by omega) ?_
    refine gw_ifc_ge  (q := 22) (t := 26) hc dX2_isNight_19 rfl (by decide)  (fun c19 => ?_) (fun c19 => ?_)
    · skip
      refine gw_iconst (q := 27) hc dX2_isNight_26 rfl ?_
      exact gw_zret hc (by first | exact Or.inl rfl | exact Or.inr rfl | omega) dX2_isNight_27 ⟨_, rfl, ⟨by unfold ngt; omega, rfl⟩⟩
    · skip
      refine gw_iconst (q := 23) hc dX2_isNight_22 rfl ?_
      refine gw_goto (q := 27) hc dX2_isNight_23 (by decide) ?_
      exact gw_zret hc (by first | exact Or.inl rfl | exact Or.inr rfl | omega) dX2_isNight_27 ⟨_, rfl, ⟨by unfold ngt; omega, rfl⟩⟩

theorem mw_X2_remembers : mV "EnergyDiscsModel" yX2_remembers cX2_remembers 2 none 0 := ⟨⟨rfl, by decide +kernel, by decide +kernel, by decide +kernel⟩, q1291, qs40, q82, q1292⟩
set_option maxHeartbeats 4000000 in
theorem m_X2_remembers {l : Launch} {D : va_G} {X : Nat → Nat} {b0 : Nat} {α : Nat → Nat} {S P L V Pd : Int → Int} {kn ln : Int} {G : gM} (hα : aN α)  (hkn : 0 ≤ kn ∧ kn ≤ 6) : gMet l D X b0 yX2_remembers cX2_remembers 2 none (rmE 0 0 0) [.ref (α 0)] (tG D α S P kn L V Pd ln G) (pV fun G' => ∃ (P' : Int → Int) (kn' : Int), G' = tG D α S P' kn' L V Pd ln G ∧ remR S P kn P' kn') := by
  refine gm_start (own := "EnergyDiscsModel") (lv := [some (.ref (α 0)), none]) (by decide +kernel) rfl (Nat.le_of_ble_eq_true rfl) rfl (fun p_ e_ s_ m_ args_ below_ meth_ c_ hc hnm => ?_)
  refine gw_aload_n (q := 1) hc dX2_remembers_0 rfl rfl xg_0 ?_
  refine gw_get (q := 4) hc dX2_remembers_1 rfl cE_MO 2 (by decide) q1254 (fun _ h => h) (tg_m hα) xg_2 ?_
  refine gw_bipush (q := 6) hc dX2_remembers_4 rfl (by decide) ?_
  refine gw_icmp_ne  (q := 9) (t := 50) hc dX2_remembers_6 rfl (by decide) (by omega) (by omega) (fun c6 => ?_) (fun c6 => ?_)
  · skip
    refine gw_iconst (q := 51) hc dX2_remembers_50 rfl ?_
    refine gw_istore_n (q := 52) hc dX2_remembers_51 rfl rfl xs_1 (by decide) (n2p xg_0 rfl) ?_
    refine gw_loop (σ := Int × (Int → Int)) (fun x => (0 ≤ x.1 ∧ x.1 ≤ 138) ∧ (∀ j, 0 ≤ j → j < x.1 → x.2 (138 * kn + j) = S j) ∧ ∀ j, j < 138 * kn → x.2 j = P j) (fun x => (138 - x.1).toNat) (fun x => tG D α S x.2 kn L V Pd ln G) (fun x => [some (.ref (α 0)), some (.int (iI x.1))]) ?_ ⟨_, _⟩ ⟨⟨by omega, by omega⟩, fun j h1 h2 => by omega, fun j _ => rfl⟩
    rintro ⟨i, P2⟩ hI52 ih52
    try dsimp only at hI52 ⊢
    refine gw_iload_n (q := 53) hc dX2_remembers_52 rfl rfl xg_1 ?_
    refine gw_sipush (q := 56) hc dX2_remembers_53 rfl (by decide) ?_
    refine gw_icmp_ge  (q := 59) (t := 86) hc dX2_remembers_56 rfl (by decide) (by omega) (by omega) (fun c56 => ?_) (fun c56 => ?_)
    · skip
      refine gw_aload_n (q := 87) hc dX2_remembers_86 rfl rfl xg_0 ?_
      refine gw_dup (q := 88) hc dX2_remembers_87 rfl rfl ?_
      refine gw_get (q := 91) hc dX2_remembers_88 rfl cE_MO 2 (by decide) q1254 (fun _ h => h) (tg_m hα) xg_2 ?_
      refine gw_iconst (q := 92) hc dX2_remembers_91 rfl ?_
      refine gw_iadd (q := 93) hc dX2_remembers_92 rfl ?_
      refine gw_put (q := 96) hc dX2_remembers_93 rfl cE_MO 2 (by decide) q1254 (fun _ h => h) rfl (tg_m hα) ⟨rfl, rfl⟩ xs_2 (Nat.le_of_ble_eq_true rfl) ?_
      refine gw_G (tu_m hα) ?_
      exact gw_vret hc dX2_remembers_96 ⟨rfl, ⟨P2, kn + 1, rfl, by rw [if_neg c6], fun j h1 h2 => by rw [show kn + 1 - 1 = kn by omega]; exact hI52.2.1 j h1 (by omega), fun h => absurd h c6, fun _ j h1 h2 => hI52.2.2 j h2⟩⟩
    · skip
      refine gw_aload_n (q := 60) hc dX2_remembers_59 rfl rfl xg_0 ?_
      refine gw_get (q := 63) hc dX2_remembers_60 rfl cE_MO 1 (by decide) q1253 (fun _ h => h) (tg_m hα) xg_1 ?_
      refine gw_sipush (q := 66) hc dX2_remembers_63 rfl (by decide) ?_
      refine gw_aload_n (q := 67) hc dX2_remembers_66 rfl rfl xg_0 ?_
      refine gw_get (q := 70) hc dX2_remembers_67 rfl cE_MO 2 (by decide) q1254 (fun _ h => h) (tg_m hα) xg_2 ?_
      refine gw_imul (q := 71) hc dX2_remembers_70 rfl ?_
      refine gw_iload_n (q := 72) hc dX2_remembers_71 rfl rfl xg_1 ?_
      refine gw_iadd (q := 73) hc dX2_remembers_72 rfl ?_
      refine gw_aload_n (q := 74) hc dX2_remembers_73 rfl rfl xg_0 ?_
      refine gw_get (q := 77) hc dX2_remembers_74 rfl cE_MO 0 (by decide) q1252 (fun _ h => h) (tg_m hα) xg_0 ?_
      refine gw_iload_n (q := 78) hc dX2_remembers_77 rfl rfl xg_1 ?_
      refine gw_lald (q := 79) hc dX2_remembers_78 rfl (tg_s hα) (by omega) (by omega) ?_
      refine gw_last (q := 80) hc dX2_remembers_79 rfl (tg_p hα) (by omega) (by omega) ?_
      refine gw_G (tu_p hα) ?_
      refine gw_iinc (q := 83) hc dX2_remembers_80 rfl xg_1 xs_1 (by decide) (n2p xg_0 rfl) ?_
      refine gw_goto (q := 52) hc dX2_remembers_83 (by decide) ?_
      exact ih52 (i + 1, fu P2 (138 * kn + i) (S i)) (by dsimp only; exact ⟨⟨by omega, by omega⟩, fun j h1 h2 => by unfold fu; split; (rename_i e; exact congrArg S (by omega)); exact hI52.2.1 j h1 (by omega), fun j h1 => by rw [fu_n (by omega)]; exact hI52.2.2 j h1⟩) (by dsimp only; omega)
  · skip
    refine gw_iconst (q := 10) hc dX2_remembers_9 rfl ?_
    refine gw_istore_n (q := 11) hc dX2_remembers_10 rfl rfl xs_1 (by decide) (n2p xg_0 rfl) ?_
    refine gw_loop (σ := Int × (Int → Int)) (fun x => (0 ≤ x.1 ∧ x.1 ≤ 690) ∧ (∀ j, 0 ≤ j → j < x.1 → x.2 j = P (138 + j)) ∧ ∀ j, x.1 ≤ j → x.2 j = P j) (fun x => (690 - x.1).toNat) (fun x => tG D α S x.2 kn L V Pd ln G) (fun x => [some (.ref (α 0)), some (.int (iI x.1))]) ?_ ⟨_, _⟩ ⟨⟨by omega, by omega⟩, fun j h1 h2 => by omega, fun j _ => rfl⟩
    rintro ⟨i, P1⟩ hI11 ih11
    try dsimp only at hI11 ⊢
    refine gw_iload_n (q := 12) hc dX2_remembers_11 rfl rfl xg_1 ?_
    refine gw_sipush (q := 15) hc dX2_remembers_12 rfl (by decide) ?_
    refine gw_icmp_ge  (q := 18) (t := 40) hc dX2_remembers_15 rfl (by decide) (by omega) (by omega) (fun c15 => ?_) (fun c15 => ?_)
    · skip
      refine gw_aload_n (q := 41) hc dX2_remembers_40 rfl rfl xg_0 ?_
      refine gw_dup (q := 42) hc dX2_remembers_41 rfl rfl ?_
      refine gw_get (q := 45) hc dX2_remembers_42 rfl cE_MO 2 (by decide) q1254 (fun _ h => h) (tg_m hα) xg_2 ?_
      refine gw_iconst (q := 46) hc dX2_remembers_45 rfl ?_
      refine gw_isub (q := 47) hc dX2_remembers_46 rfl ?_
      refine gw_put (q := 50) hc dX2_remembers_47 rfl cE_MO 2 (by decide) q1254 (fun _ h => h) rfl (tg_m hα) ⟨rfl, rfl⟩ xs_2 (Nat.le_of_ble_eq_true rfl) ?_
      refine gw_G (tu_m hα) ?_
      refine gw_iconst (q := 51) hc dX2_remembers_50 rfl ?_
      refine gw_istore_n (q := 52) hc dX2_remembers_51 rfl rfl xs_1 (by decide) (n2p xg_0 rfl) ?_
      refine gw_loop (σ := Int × (Int → Int)) (fun x => (0 ≤ x.1 ∧ x.1 ≤ 138) ∧ (∀ j, 0 ≤ j → j < x.1 → x.2 (138 * (kn - 1) + j) = S j) ∧ ∀ j, j < 138 * (kn - 1) → x.2 j = P1 j) (fun x => (138 - x.1).toNat) (fun x => tG D α S x.2 (kn - 1) L V Pd ln G) (fun x => [some (.ref (α 0)), some (.int (iI x.1))]) ?_ ⟨_, _⟩ ⟨⟨by omega, by omega⟩, fun j h1 h2 => by omega, fun j _ => rfl⟩
      rintro ⟨i, P2⟩ hI52 ih52
      try dsimp only at hI52 ⊢
      refine gw_iload_n (q := 53) hc dX2_remembers_52 rfl rfl xg_1 ?_
      refine gw_sipush (q := 56) hc dX2_remembers_53 rfl (by decide) ?_
      refine gw_icmp_ge  (q := 59) (t := 86) hc dX2_remembers_56 rfl (by decide) (by omega) (by omega) (fun c56 => ?_) (fun c56 => ?_)
      · skip
        refine gw_aload_n (q := 87) hc dX2_remembers_86 rfl rfl xg_0 ?_
        refine gw_dup (q := 88) hc dX2_remembers_87 rfl rfl ?_
        refine gw_get (q := 91) hc dX2_remembers_88 rfl cE_MO 2 (by decide) q1254 (fun _ h => h) (tg_m hα) xg_2 ?_
        refine gw_iconst (q := 92) hc dX2_remembers_91 rfl ?_
        refine gw_iadd (q := 93) hc dX2_remembers_92 rfl ?_
        refine gw_put (q := 96) hc dX2_remembers_93 rfl cE_MO 2 (by decide) q1254 (fun _ h => h) rfl (tg_m hα) ⟨rfl, rfl⟩ xs_2 (Nat.le_of_ble_eq_true rfl) ?_
        refine gw_G (tu_m hα) ?_
        exact gw_vret hc dX2_remembers_96 ⟨rfl, ⟨P2, kn - 1 + 1, rfl, by rw [if_pos c6]; omega, fun j h1 h2 => by rw [show kn - 1 + 1 - 1 = kn - 1 by omega]; exact hI52.2.1 j h1 (by omega), fun _ j h1 h2 => by rw [hI52.2.2 j (by omega)]; exact hI11.2.1 j h1 (by omega), fun h => absurd c6 h⟩⟩
      · skip
        refine gw_aload_n (q := 60) hc dX2_remembers_59 rfl rfl xg_0 ?_
        refine gw_get (q := 63) hc dX2_remembers_60 rfl cE_MO 1 (by decide) q1253 (fun _ h => h) (tg_m hα) xg_1 ?_
        refine gw_sipush (q := 66) hc dX2_remembers_63 rfl (by decide) ?_
        refine gw_aload_n (q := 67) hc dX2_remembers_66 rfl rfl xg_0 ?_
        refine gw_get (q := 70) hc dX2_remembers_67 rfl cE_MO 2 (by decide) q1254 (fun _ h => h) (tg_m hα) xg_2 ?_
        refine gw_imul (q := 71) hc dX2_remembers_70 rfl ?_
        refine gw_iload_n (q := 72) hc dX2_remembers_71 rfl rfl xg_1 ?_
        refine gw_iadd (q := 73) hc dX2_remembers_72 rfl ?_
        refine gw_aload_n (q := 74) hc dX2_remembers_73 rfl rfl xg_0 ?_
        refine gw_get (q := 77) hc dX2_remembers_74 rfl cE_MO 0 (by decide) q1252 (fun _ h => h) (tg_m hα) xg_0 ?_
        refine gw_iload_n (q := 78) hc dX2_remembers_77 rfl rfl xg_1 ?_
        refine gw_lald (q := 79) hc dX2_remembers_78 rfl (tg_s hα) (by omega) (by omega) ?_
        refine gw_last (q := 80) hc dX2_remembers_79 rfl (tg_p hα) (by omega) (by omega) ?_
        refine gw_G (tu_p hα) ?_
        refine gw_iinc (q := 83) hc dX2_remembers_80 rfl xg_1 xs_1 (by decide) (n2p xg_0 rfl) ?_
        refine gw_goto (q := 52) hc dX2_remembers_83 (by decide) ?_
        exact ih52 (i + 1, fu P2 (138 * (kn - 1) + i) (S i)) (by dsimp only; exact ⟨⟨by omega, by omega⟩, fun j h1 h2 => by unfold fu; split; (rename_i e; exact congrArg S (by omega)); exact hI52.2.1 j h1 (by omega), fun j h1 => by rw [fu_n (by omega)]; exact hI52.2.2 j h1⟩) (by dsimp only; omega)
    · skip
      refine gw_aload_n (q := 19) hc dX2_remembers_18 rfl rfl xg_0 ?_
      refine gw_get (q := 22) hc dX2_remembers_19 rfl cE_MO 1 (by decide) q1253 (fun _ h => h) (tg_m hα) xg_1 ?_
      refine gw_iload_n (q := 23) hc dX2_remembers_22 rfl rfl xg_1 ?_
      refine gw_aload_n (q := 24) hc dX2_remembers_23 rfl rfl xg_0 ?_
      refine gw_get (q := 27) hc dX2_remembers_24 rfl cE_MO 1 (by decide) q1253 (fun _ h => h) (tg_m hα) xg_1 ?_
      refine gw_sipush (q := 30) hc dX2_remembers_27 rfl (by decide) ?_
      refine gw_iload_n (q := 31) hc dX2_remembers_30 rfl rfl xg_1 ?_
      refine gw_iadd (q := 32) hc dX2_remembers_31 rfl ?_
      refine gw_lald (q := 33) hc dX2_remembers_32 rfl (tg_p hα) (by omega) (by omega) ?_
      refine gw_last (q := 34) hc dX2_remembers_33 rfl (tg_p hα) (by omega) (by omega) ?_
      refine gw_G (tu_p hα) ?_
      refine gw_iinc (q := 37) hc dX2_remembers_34 rfl xg_1 xs_1 (by decide) (n2p xg_0 rfl) ?_
      refine gw_goto (q := 11) hc dX2_remembers_37 (by decide) ?_
      exact ih11 (i + 1, fu P1 i (P1 (138 + i))) (by dsimp only; exact ⟨⟨by omega, by omega⟩, fun j h1 h2 => by unfold fu; split; (rename_i e; rw [hI11.2.2 (138 + i) (by omega), e]); exact hI11.2.1 j h1 (by omega), fun j h1 => by rw [fu_n (by omega)]; exact hI11.2.2 j (by omega)⟩) (by dsimp only; omega)

theorem mw_X2_copies : mV "EnergyDiscsModel" yX2_copies cX2_copies 2 none 0 := ⟨⟨rfl, by decide +kernel, by decide +kernel, by decide +kernel⟩, q1462, qs64, q82, q1463⟩
set_option maxHeartbeats 4000000 in
theorem m_X2_copies {l : Launch} {D : va_G} {X : Nat → Nat} {b0 : Nat} {α : Nat → Nat} {S P L V Pd : Int → Int} {kn ln : Int} {G : gM} (hα : aN α)   : gMet l D X b0 yX2_copies cX2_copies 2 none (rmE 0 0 0) [.ref (α 0)] (tG D α S P kn L V Pd ln G) (pV fun G' => ∃ S' : Int → Int, G' = tG D α S' P kn L V Pd ln G ∧ cpyR S S') := by
  refine gm_start (own := "EnergyDiscsModel") (lv := [some (.ref (α 0)), none]) (by decide +kernel) rfl (Nat.le_of_ble_eq_true rfl) rfl (fun p_ e_ s_ m_ args_ below_ meth_ c_ hc hnm => ?_)
  refine gw_iconst (q := 1) hc dX2_copies_0 rfl ?_
  refine gw_istore_n (q := 2) hc dX2_copies_1 rfl rfl xs_1 (by decide) (n2p xg_0 rfl) ?_
  refine gw_loop (σ := Int × (Int → Int)) (fun x => (0 ≤ x.1 ∧ x.1 ≤ 138) ∧ (∀ j, 0 ≤ j → j < x.1 → x.2 (138 + j) = S j) ∧ ∀ j, j < 138 → x.2 j = S j) (fun x => (138 - x.1).toNat) (fun x => tG D α x.2 P kn L V Pd ln G) (fun x => [some (.ref (α 0)), some (.int (iI x.1))]) ?_ ⟨_, _⟩ ⟨⟨by omega, by omega⟩, fun j h1 h2 => by omega, fun j _ => rfl⟩
  rintro ⟨i, S1⟩ hI2 ih2
  try dsimp only at hI2 ⊢
  refine gw_iload_n (q := 3) hc dX2_copies_2 rfl rfl xg_1 ?_
  refine gw_sipush (q := 6) hc dX2_copies_3 rfl (by decide) ?_
  refine gw_icmp_ge  (q := 9) (t := 31) hc dX2_copies_6 rfl (by decide) (by omega) (by omega) (fun c6 => ?_) (fun c6 => ?_)
  · skip
    exact gw_vret hc dX2_copies_31 ⟨rfl, ⟨S1, rfl, fun j h1 h2 => hI2.2.1 j h1 (by omega), hI2.2.2⟩⟩
  · skip
    refine gw_aload_n (q := 10) hc dX2_copies_9 rfl rfl xg_0 ?_
    refine gw_get (q := 13) hc dX2_copies_10 rfl cE_MO 0 (by decide) q1252 (fun _ h => h) (tg_m hα) xg_0 ?_
    refine gw_sipush (q := 16) hc dX2_copies_13 rfl (by decide) ?_
    refine gw_iload_n (q := 17) hc dX2_copies_16 rfl rfl xg_1 ?_
    refine gw_iadd (q := 18) hc dX2_copies_17 rfl ?_
    refine gw_aload_n (q := 19) hc dX2_copies_18 rfl rfl xg_0 ?_
    refine gw_get (q := 22) hc dX2_copies_19 rfl cE_MO 0 (by decide) q1252 (fun _ h => h) (tg_m hα) xg_0 ?_
    refine gw_iload_n (q := 23) hc dX2_copies_22 rfl rfl xg_1 ?_
    refine gw_lald (q := 24) hc dX2_copies_23 rfl (tg_s hα) (by omega) (by omega) ?_
    refine gw_last (q := 25) hc dX2_copies_24 rfl (tg_s hα) (by omega) (by omega) ?_
    refine gw_G (tu_s hα) ?_
    refine gw_iinc (q := 28) hc dX2_copies_25 rfl xg_1 xs_1 (by decide) (n2p xg_0 rfl) ?_
    refine gw_goto (q := 2) hc dX2_copies_28 (by decide) ?_
    exact ih2 (i + 1, fu S1 (138 + i) (S1 i)) (by dsimp only; exact ⟨⟨by omega, by omega⟩, fun j h1 h2 => by unfold fu; split; (rename_i e; rw [hI2.2.2 i (by omega)]; exact congrArg S (by omega)); exact hI2.2.1 j h1 (by omega), fun j h1 => by rw [fu_n (by omega)]; exact hI2.2.2 j h1⟩) (by dsimp only; omega)

theorem mw_X2_isThrough : mV "EnergyDiscsModel" yX2_isThrough cX2_isThrough 4 (some FieldType.boolean) 2 := ⟨⟨rfl, by decide +kernel, by decide +kernel, by decide +kernel⟩, q1389, qs57, q82, q1390⟩
set_option maxHeartbeats 4000000 in
theorem m_X2_isThrough {l : Launch} {D : va_G} {X : Nat → Nat} {b0 : Nat} {α : Nat → Nat} {S P L V Pd : Int → Int} {kn ln : Int} {G : gM} (hα : aN α) {k : Int} {o : Int} (hT : treeW S) (hk : 0 ≤ k ∧ k < S 7) (ho : 0 ≤ o ∧ rI o) : gMet l D X b0 yX2_isThrough cX2_isThrough 4 (some FieldType.boolean) (rmE 2 0 0) [.ref (α 0), .int (iI k), .int (iI o)] (tG D α S P kn L V Pd ln G) (eB (thr S k o = true) (tG D α S P kn L V Pd ln G)) := by
  refine gm_start (own := "EnergyDiscsModel") (lv := [some (.ref (α 0)), some (.int (iI k)), some (.int (iI o)), none]) (by decide +kernel) rfl (Nat.le_of_ble_eq_true rfl) rfl (fun p_ e_ s_ m_ args_ below_ meth_ c_ hc hnm => ?_)
  have h7 := hT.1
  refine gw_iload_n (q := 1) hc dX2_isThrough_0 rfl rfl xg_1 ?_
  refine gw_istore_n (q := 2) hc dX2_isThrough_1 rfl rfl xs_3 (by decide) (n2p xg_2 rfl) ?_
  refine gw_loop (σ := Int) (fun x => (0 ≤ x ∧ x < S 7) ∧ thr S k o = thr S x o) (fun x => x.toNat) (fun x => tG D α S P kn L V Pd ln G) (fun x => [some (.ref (α 0)), some (.int (iI k)), some (.int (iI o)), some (.int (iI x))]) ?_ _ ⟨⟨by omega, by omega⟩, rfl⟩
  rintro x hI2 ih2
  try dsimp only at hI2 ⊢
  have h7 := hT.1
  have ht := hT.2 x
  refine gw_iload_n (q := 3) hc dX2_isThrough_2 rfl rfl xg_3 ?_
  refine gw_iload_n (q := 4) hc dX2_isThrough_3 rfl rfl xg_2 ?_
  refine gw_icmp_le  (q := 7) (t := 17) hc dX2_isThrough_4 rfl (by decide) (by omega) (by omega) (fun c4 => ?_) (fun c4 => ?_)
  · skip
    refine gw_iload_n (q := 18) hc dX2_isThrough_17 rfl rfl xg_3 ?_
    refine gw_iload_n (q := 19) hc dX2_isThrough_18 rfl rfl xg_2 ?_
    refine gw_icmp_ne  (q := 22) (t := 26) hc dX2_isThrough_19 rfl (by decide) (by omega) (by omega) (fun c19 => ?_) (fun c19 => ?_)
    · skip
      refine gw_iconst (q := 27) hc dX2_isThrough_26 rfl ?_
      exact gw_zret hc (by first | exact Or.inl rfl | exact Or.inr rfl | omega) dX2_isThrough_27 ⟨_, rfl, ⟨by rw [hI2.2, thr_end (by omega)]; simp; omega, rfl⟩⟩
    · skip
      refine gw_iconst (q := 23) hc dX2_isThrough_22 rfl ?_
      refine gw_goto (q := 27) hc dX2_isThrough_23 (by decide) ?_
      exact gw_zret hc (by first | exact Or.inl rfl | exact Or.inr rfl | omega) dX2_isThrough_27 ⟨_, rfl, ⟨by rw [hI2.2, thr_end (by omega)]; simp; omega, rfl⟩⟩
  · skip
    refine gw_aload_n (q := 8) hc dX2_isThrough_7 rfl rfl xg_0 ?_
    refine gw_iload_n (q := 9) hc dX2_isThrough_8 rfl rfl xg_3 ?_
    refine gw_iconst (q := 10) hc dX2_isThrough_9 rfl ?_
    refine gw_callV (q := 13) (bc' := 0) (bs' := 0) (As := [_, _]) hc dX2_isThrough_10 rfl q1350 mw_X2_its (rc_o hc cE_MO (tg_m hα)) rfl rfl (m_X2_its hα (by omega)) ⟨Nat.le_of_ble_eq_true rfl, Nat.le_of_ble_eq_true rfl⟩ (Nat.le_of_ble_eq_true rfl) (Nat.le_of_ble_eq_true rfl) (Nat.le_of_ble_eq_true rfl) (goI fun r10 G10 h10 => ?_)
    obtain ⟨rfl, rfl⟩ := h10
    simp only [Int.add_zero]
    refine gw_istore_n (q := 14) hc dX2_isThrough_13 rfl rfl xs_3 (by decide) (n2p xg_2 rfl) ?_
    refine gw_goto (q := 2) hc dX2_isThrough_14 (by decide) ?_
    exact ih2 _ ⟨⟨by omega, by omega⟩, by rw [hI2.2, thr_step hT (by omega) c4 (by omega)]⟩ (by omega)

theorem mw_X2_power : mV "EnergyDiscsModel" yX2_power cX2_power 5 (some FieldType.int) 1 := ⟨⟨rfl, by decide +kernel, by decide +kernel, by decide +kernel⟩, q1385, qs56, q82, q1386⟩
set_option maxHeartbeats 4000000 in
theorem m_X2_power {l : Launch} {D : va_G} {X : Nat → Nat} {b0 : Nat} {α : Nat → Nat} {S P L V Pd : Int → Int} {kn ln : Int} {G : gM} (hα : aN α) {k : Int} (hT : treeW S) (hL : loadW S) (hk : 0 ≤ k ∧ k < 7) : gMet l D X b0 yX2_power cX2_power 5 (some FieldType.int) (rmE 3 0 0) [.ref (α 0), .int (iI k)] (tG D α S P kn L V Pd ln G) (eI (pw S k) (tG D α S P kn L V Pd ln G)) := by
  refine gm_start (own := "EnergyDiscsModel") (lv := [some (.ref (α 0)), some (.int (iI k)), none, none, none]) (by decide +kernel) rfl (Nat.le_of_ble_eq_true rfl) rfl (fun p_ e_ s_ m_ args_ below_ meth_ c_ hc hnm => ?_)
  have h8 := hL.1
  refine gw_iconst (q := 1) hc dX2_power_0 rfl ?_
  refine gw_istore_n (q := 2) hc dX2_power_1 rfl rfl xs_2 (by decide) (n2p xg_1 rfl) ?_
  refine gw_iconst (q := 3) hc dX2_power_2 rfl ?_
  refine gw_istore_n (q := 4) hc dX2_power_3 rfl rfl xs_3 (by decide) (n2p xg_2 rfl) ?_
  refine gw_loop (σ := Int × Int) (fun x => (0 ≤ x.2 ∧ x.2 ≤ S 8) ∧ x.1 = pwF S k x.2.toNat) (fun x => (S 8 - x.2).toNat) (fun x => tG D α S P kn L V Pd ln G) (fun x => [some (.ref (α 0)), some (.int (iI k)), some (.int (iI x.1)), some (.int (iI x.2)), none]) ?_ ⟨_, _⟩ ⟨⟨by omega, by omega⟩, rfl⟩
  rintro ⟨sm, j⟩ hI4 ih4
  try dsimp only at hI4 ⊢
  have h8 := hL.1
  have hl := hL.2 j hI4.1.1
  refine gw_iload_n (q := 5) hc dX2_power_4 rfl rfl xg_3 ?_
  refine gw_aload_n (q := 6) hc dX2_power_5 rfl rfl xg_0 ?_
  refine gw_bipush (q := 8) hc dX2_power_6 rfl (by decide) ?_
  refine gw_callV (q := 11) (bc' := 0) (bs' := 0) (As := [_]) hc dX2_power_8 rfl q1293 mw_X2_num (rc_o hc cE_MO (tg_m hα)) rfl rfl (m_X2_num hα (by omega)) ⟨Nat.le_of_ble_eq_true rfl, Nat.le_of_ble_eq_true rfl⟩ (Nat.le_of_ble_eq_true rfl) (Nat.le_of_ble_eq_true rfl) (Nat.le_of_ble_eq_true rfl) (goI fun r8 G8 h8 => ?_)
  obtain ⟨rfl, rfl⟩ := h8
  refine gw_icmp_ge  (q := 14) (t := 91) hc dX2_power_11 rfl (by decide) (by omega) (by omega) (fun c11 => ?_) (fun c11 => ?_)
  · skip
    refine gw_iload_n (q := 92) hc dX2_power_91 rfl rfl xg_2 ?_
    exact gw_iret hc dX2_power_92 ⟨_, rfl, ⟨by rw [hI4.2]; unfold pw; congr 2; omega, rfl⟩⟩
  · skip
    refine gw_aload_n (q := 15) hc dX2_power_14 rfl rfl xg_0 ?_
    refine gw_get (q := 18) hc dX2_power_15 rfl cE_MO 0 (by decide) q1252 (fun _ h => h) (tg_m hα) xg_0 ?_
    refine gw_bipush (q := 20) hc dX2_power_18 rfl (by decide) ?_
    refine gw_iconst (q := 21) hc dX2_power_20 rfl ?_
    refine gw_iload_n (q := 22) hc dX2_power_21 rfl rfl xg_3 ?_
    refine gw_imul (q := 23) hc dX2_power_22 rfl ?_
    refine gw_iadd (q := 24) hc dX2_power_23 rfl ?_
    refine gw_iconst (q := 25) hc dX2_power_24 rfl ?_
    refine gw_iadd (q := 26) hc dX2_power_25 rfl ?_
    refine gw_lald (q := 27) hc dX2_power_26 rfl (tg_s hα) (by omega) (by omega) ?_
    refine gw_lconst (q := 28) hc dX2_power_27 rfl (v := 1) rfl ?_
    refine gw_lcmp (q := 29) hc dX2_power_28 rfl (by omega) (by omega) ?_
    refine gw_ifc_ne  (q := 32) (t := 56) hc dX2_power_29 rfl (by decide)  (fun c29 => ?_) (fun c29 => ?_)
    · skip
      refine gw_iconst (q := 57) hc dX2_power_56 rfl ?_
      refine gw_istore (q := 59) hc dX2_power_57 rfl xs_4 (by decide) (n2p xg_3 rfl) ?_
      refine gw_iload_n (q := 60) hc dX2_power_59 rfl rfl xg_2 ?_
      refine gw_iload (q := 62) hc dX2_power_60 rfl xg_4 ?_
      refine gw_if_eq  (q := 65) (t := 82) hc dX2_power_62 rfl (by decide) (by omega) (fun c62 => ?_) (fun c62 => ?_)
      · skip
        refine gw_iconst (q := 83) hc dX2_power_82 rfl ?_
        refine gw_iadd (q := 84) hc dX2_power_83 rfl ?_
        refine gw_istore_n (q := 85) hc dX2_power_84 rfl rfl xs_2 (by decide) (n2p xg_1 rfl) ?_
        refine gw_drop (i := 4) xs_4 ?_
        refine gw_iinc (q := 88) hc dX2_power_85 rfl xg_3 xs_3 (by decide) (n2p xg_2 rfl) ?_
        refine gw_goto (q := 4) hc dX2_power_88 (by decide) ?_
        exact ih4 (_, j + 1) (by dsimp only; exact ⟨⟨by omega, by omega⟩, by rw [pwF_succ hI4.1.1, hI4.2]; simp_all⟩) (by dsimp only; omega)
      · skip
        refine gw_aload_n (q := 66) hc dX2_power_65 rfl rfl xg_0 ?_
        refine gw_get (q := 69) hc dX2_power_66 rfl cE_MO 0 (by decide) q1252 (fun _ h => h) (tg_m hα) xg_0 ?_
        refine gw_bipush (q := 71) hc dX2_power_69 rfl (by decide) ?_
        refine gw_iconst (q := 72) hc dX2_power_71 rfl ?_
        refine gw_iload_n (q := 73) hc dX2_power_72 rfl rfl xg_3 ?_
        refine gw_imul (q := 74) hc dX2_power_73 rfl ?_
        refine gw_iadd (q := 75) hc dX2_power_74 rfl ?_
        refine gw_iconst (q := 76) hc dX2_power_75 rfl ?_
        refine gw_iadd (q := 77) hc dX2_power_76 rfl ?_
        refine gw_lald (q := 78) hc dX2_power_77 rfl (tg_s hα) (by omega) (by omega) ?_
        refine gw_l2i (q := 79) hc dX2_power_78 rfl ?_
        refine gw_goto (q := 83) hc dX2_power_79 (by decide) ?_
        refine gw_iadd (q := 84) hc dX2_power_83 rfl ?_
        refine gw_istore_n (q := 85) hc dX2_power_84 rfl rfl xs_2 (by decide) (n2p xg_1 rfl) ?_
        refine gw_drop (i := 4) xs_4 ?_
        refine gw_iinc (q := 88) hc dX2_power_85 rfl xg_3 xs_3 (by decide) (n2p xg_2 rfl) ?_
        refine gw_goto (q := 4) hc dX2_power_88 (by decide) ?_
        exact ih4 (_, j + 1) (by dsimp only; exact ⟨⟨by omega, by omega⟩, by rw [pwF_succ hI4.1.1, hI4.2]; simp_all⟩) (by dsimp only; omega)
    · skip
      refine gw_aload_n (q := 33) hc dX2_power_32 rfl rfl xg_0 ?_
      refine gw_aload_n (q := 34) hc dX2_power_33 rfl rfl xg_0 ?_
      refine gw_get (q := 37) hc dX2_power_34 rfl cE_MO 0 (by decide) q1252 (fun _ h => h) (tg_m hα) xg_0 ?_
      refine gw_bipush (q := 39) hc dX2_power_37 rfl (by decide) ?_
      refine gw_iconst (q := 40) hc dX2_power_39 rfl ?_
      refine gw_iload_n (q := 41) hc dX2_power_40 rfl rfl xg_3 ?_
      refine gw_imul (q := 42) hc dX2_power_41 rfl ?_
      refine gw_iadd (q := 43) hc dX2_power_42 rfl ?_
      refine gw_lald (q := 44) hc dX2_power_43 rfl (tg_s hα) (by omega) (by omega) ?_
      refine gw_l2i (q := 45) hc dX2_power_44 rfl ?_
      refine gw_iload_n (q := 46) hc dX2_power_45 rfl rfl xg_1 ?_
      refine gw_callV (q := 49) (bc' := 0) (bs' := 0) (As := [_, _]) hc dX2_power_46 rfl q1387 mw_X2_isThrough (rc_o hc cE_MO (tg_m hα)) rfl rfl (m_X2_isThrough hα hT (by omega) (by omega)) ⟨Nat.le_of_ble_eq_true rfl, Nat.le_of_ble_eq_true rfl⟩ (Nat.le_of_ble_eq_true rfl) (Nat.le_of_ble_eq_true rfl) (Nat.le_of_ble_eq_true rfl) (goI fun r46 G46 h46 => ?_)
      obtain ⟨b46, rfl⟩ := h46
      refine gw_if_eq  (q := 52) (t := 56) hc dX2_power_49 rfl (by decide) (by omega) (fun c49 => ?_) (fun c49 => ?_)
      · skip
        refine gw_iconst (q := 57) hc dX2_power_56 rfl ?_
        refine gw_istore (q := 59) hc dX2_power_57 rfl xs_4 (by decide) (n2p xg_3 rfl) ?_
        refine gw_iload_n (q := 60) hc dX2_power_59 rfl rfl xg_2 ?_
        refine gw_iload (q := 62) hc dX2_power_60 rfl xg_4 ?_
        refine gw_if_eq  (q := 65) (t := 82) hc dX2_power_62 rfl (by decide) (by omega) (fun c62 => ?_) (fun c62 => ?_)
        · skip
          refine gw_iconst (q := 83) hc dX2_power_82 rfl ?_
          refine gw_iadd (q := 84) hc dX2_power_83 rfl ?_
          refine gw_istore_n (q := 85) hc dX2_power_84 rfl rfl xs_2 (by decide) (n2p xg_1 rfl) ?_
          refine gw_drop (i := 4) xs_4 ?_
          refine gw_iinc (q := 88) hc dX2_power_85 rfl xg_3 xs_3 (by decide) (n2p xg_2 rfl) ?_
          refine gw_goto (q := 4) hc dX2_power_88 (by decide) ?_
          exact ih4 (_, j + 1) (by dsimp only; exact ⟨⟨by omega, by omega⟩, by rw [pwF_succ hI4.1.1, hI4.2]; simp_all⟩) (by dsimp only; omega)
        · skip
          refine gw_aload_n (q := 66) hc dX2_power_65 rfl rfl xg_0 ?_
          refine gw_get (q := 69) hc dX2_power_66 rfl cE_MO 0 (by decide) q1252 (fun _ h => h) (tg_m hα) xg_0 ?_
          refine gw_bipush (q := 71) hc dX2_power_69 rfl (by decide) ?_
          refine gw_iconst (q := 72) hc dX2_power_71 rfl ?_
          refine gw_iload_n (q := 73) hc dX2_power_72 rfl rfl xg_3 ?_
          refine gw_imul (q := 74) hc dX2_power_73 rfl ?_
          refine gw_iadd (q := 75) hc dX2_power_74 rfl ?_
          refine gw_iconst (q := 76) hc dX2_power_75 rfl ?_
          refine gw_iadd (q := 77) hc dX2_power_76 rfl ?_
          refine gw_lald (q := 78) hc dX2_power_77 rfl (tg_s hα) (by omega) (by omega) ?_
          refine gw_l2i (q := 79) hc dX2_power_78 rfl ?_
          refine gw_goto (q := 83) hc dX2_power_79 (by decide) ?_
          refine gw_iadd (q := 84) hc dX2_power_83 rfl ?_
          refine gw_istore_n (q := 85) hc dX2_power_84 rfl rfl xs_2 (by decide) (n2p xg_1 rfl) ?_
          refine gw_drop (i := 4) xs_4 ?_
          refine gw_iinc (q := 88) hc dX2_power_85 rfl xg_3 xs_3 (by decide) (n2p xg_2 rfl) ?_
          refine gw_goto (q := 4) hc dX2_power_88 (by decide) ?_
          exact ih4 (_, j + 1) (by dsimp only; exact ⟨⟨by omega, by omega⟩, by rw [pwF_succ hI4.1.1, hI4.2]; simp_all⟩) (by dsimp only; omega)
      · skip
        refine gw_iconst (q := 53) hc dX2_power_52 rfl ?_
        refine gw_goto (q := 57) hc dX2_power_53 (by decide) ?_
        refine gw_istore (q := 59) hc dX2_power_57 rfl xs_4 (by decide) (n2p xg_3 rfl) ?_
        refine gw_iload_n (q := 60) hc dX2_power_59 rfl rfl xg_2 ?_
        refine gw_iload (q := 62) hc dX2_power_60 rfl xg_4 ?_
        refine gw_if_eq  (q := 65) (t := 82) hc dX2_power_62 rfl (by decide) (by omega) (fun c62 => ?_) (fun c62 => ?_)
        · skip
          refine gw_iconst (q := 83) hc dX2_power_82 rfl ?_
          refine gw_iadd (q := 84) hc dX2_power_83 rfl ?_
          refine gw_istore_n (q := 85) hc dX2_power_84 rfl rfl xs_2 (by decide) (n2p xg_1 rfl) ?_
          refine gw_drop (i := 4) xs_4 ?_
          refine gw_iinc (q := 88) hc dX2_power_85 rfl xg_3 xs_3 (by decide) (n2p xg_2 rfl) ?_
          refine gw_goto (q := 4) hc dX2_power_88 (by decide) ?_
          exact ih4 (_, j + 1) (by dsimp only; exact ⟨⟨by omega, by omega⟩, by rw [pwF_succ hI4.1.1, hI4.2]; simp_all⟩) (by dsimp only; omega)
        · skip
          refine gw_aload_n (q := 66) hc dX2_power_65 rfl rfl xg_0 ?_
          refine gw_get (q := 69) hc dX2_power_66 rfl cE_MO 0 (by decide) q1252 (fun _ h => h) (tg_m hα) xg_0 ?_
          refine gw_bipush (q := 71) hc dX2_power_69 rfl (by decide) ?_
          refine gw_iconst (q := 72) hc dX2_power_71 rfl ?_
          refine gw_iload_n (q := 73) hc dX2_power_72 rfl rfl xg_3 ?_
          refine gw_imul (q := 74) hc dX2_power_73 rfl ?_
          refine gw_iadd (q := 75) hc dX2_power_74 rfl ?_
          refine gw_iconst (q := 76) hc dX2_power_75 rfl ?_
          refine gw_iadd (q := 77) hc dX2_power_76 rfl ?_
          refine gw_lald (q := 78) hc dX2_power_77 rfl (tg_s hα) (by omega) (by omega) ?_
          refine gw_l2i (q := 79) hc dX2_power_78 rfl ?_
          refine gw_goto (q := 83) hc dX2_power_79 (by decide) ?_
          refine gw_iadd (q := 84) hc dX2_power_83 rfl ?_
          refine gw_istore_n (q := 85) hc dX2_power_84 rfl rfl xs_2 (by decide) (n2p xg_1 rfl) ?_
          refine gw_drop (i := 4) xs_4 ?_
          refine gw_iinc (q := 88) hc dX2_power_85 rfl xg_3 xs_3 (by decide) (n2p xg_2 rfl) ?_
          refine gw_goto (q := 4) hc dX2_power_88 (by decide) ?_
          exact ih4 (_, j + 1) (by dsimp only; exact ⟨⟨by omega, by omega⟩, by rw [pwF_succ hI4.1.1, hI4.2]; simp_all⟩) (by dsimp only; omega)

theorem mw_X2_goes : mV "EnergyDiscsModel" yX2_goes cX2_goes 9 (some FieldType.long) 3 := ⟨⟨rfl, by decide +kernel, by decide +kernel, by decide +kernel⟩, q1393, qs58, q82, q1394⟩
set_option maxHeartbeats 4000000 in
theorem m_X2_goes {l : Launch} {D : va_G} {X : Nat → Nat} {b0 : Nat} {α : Nat → Nat} {S P L V Pd : Int → Int} {kn ln : Int} {G : gM} (hα : aN α) {p : Int} {m : Int} {w : Int} (hp : p = 0 ∨ p = 138) (hm : 0 ≤ m ∧ m < 7) (hw : 0 ≤ w ∧ w ≤ 48000) (hs : rI (S (p + 0))) (h1 : 0 ≤ S (p + 11 + 13 * m + 1) ∧ S (p + 11 + 13 * m + 1) < 6000) (h2 : 0 ≤ S (p + 11 + 13 * m + 2) ∧ S (p + 11 + 13 * m + 2) ≤ 160) (h7 : S (p + 11 + 13 * m + 7) = 0 ∨ S (p + 11 + 13 * m + 7) = 1) (hc1 : 0 ≤ S (p + 1) ∧ S (p + 1) ≤ 9) (hc2 : 0 ≤ S (p + 2) ∧ S (p + 2) ≤ 1) : gMet l D X b0 yX2_goes cX2_goes 9 (some FieldType.long) (rmE 1 0 0) [.ref (α 0), .int (iI p), .int (iI m), .int (iI w)] (tG D α S P kn L V Pd ln G) (eJ (goF S p m w) (tG D α S P kn L V Pd ln G)) := by
  refine gm_start (own := "EnergyDiscsModel") (lv := [some (.ref (α 0)), some (.int (iI p)), some (.int (iI m)), some (.int (iI w)), none, none, none, none, none]) (by decide +kernel) rfl (Nat.le_of_ble_eq_true rfl) rfl (fun p_ e_ s_ m_ args_ below_ meth_ c_ hc hnm => ?_)
  have hb : 0 ≤ w * S (p + 11 + 13 * m + 2) ∧ w * S (p + 11 + 13 * m + 2) ≤ 48000 * 160 := ⟨Int.mul_nonneg hw.1 h2.1, Int.mul_le_mul hw.2 h2.2 h2.1 (by omega)⟩
  refine gw_aload_n (q := 1) hc dX2_goes_0 rfl rfl xg_0 ?_
  refine gw_get (q := 4) hc dX2_goes_1 rfl cE_MO 0 (by decide) q1252 (fun _ h => h) (tg_m hα) xg_0 ?_
  refine gw_iload_n (q := 5) hc dX2_goes_4 rfl rfl xg_1 ?_
  refine gw_iload_n (q := 6) hc dX2_goes_5 rfl rfl xg_2 ?_
  refine gw_callS (q := 9) (bc' := 0) (bs' := 0) (As := [_, _]) hc dX2_goes_6 rfl q1313 mw_X2_at rfl rfl (m_X2_at) ⟨Nat.le_of_ble_eq_true rfl, Nat.le_of_ble_eq_true rfl⟩ (Nat.le_of_ble_eq_true rfl) (Nat.le_of_ble_eq_true rfl) (Nat.le_of_ble_eq_true rfl) (goI fun r6 G6 h6 => ?_)
  obtain ⟨rfl, rfl⟩ := h6
  refine gw_iconst (q := 10) hc dX2_goes_9 rfl ?_
  refine gw_iadd (q := 11) hc dX2_goes_10 rfl ?_
  refine gw_lald (q := 12) hc dX2_goes_11 rfl (tg_s hα) (by omega) (by omega) ?_
  refine gw_lstore (q := 14) hc dX2_goes_12 rfl xs_4 xs_5 (by decide) (n2p xg_3 rfl) ?_
  refine gw_aload_n (q := 15) hc dX2_goes_14 rfl rfl xg_0 ?_
  refine gw_get (q := 18) hc dX2_goes_15 rfl cE_MO 0 (by decide) q1252 (fun _ h => h) (tg_m hα) xg_0 ?_
  refine gw_iload_n (q := 19) hc dX2_goes_18 rfl rfl xg_1 ?_
  refine gw_iload_n (q := 20) hc dX2_goes_19 rfl rfl xg_2 ?_
  refine gw_callS (q := 23) (bc' := 0) (bs' := 0) (As := [_, _]) hc dX2_goes_20 rfl q1313 mw_X2_at rfl rfl (m_X2_at) ⟨Nat.le_of_ble_eq_true rfl, Nat.le_of_ble_eq_true rfl⟩ (Nat.le_of_ble_eq_true rfl) (Nat.le_of_ble_eq_true rfl) (Nat.le_of_ble_eq_true rfl) (goI fun r20 G20 h20 => ?_)
  obtain ⟨rfl, rfl⟩ := h20
  refine gw_bipush (q := 25) hc dX2_goes_23 rfl (by decide) ?_
  refine gw_iadd (q := 26) hc dX2_goes_25 rfl ?_
  refine gw_lald (q := 27) hc dX2_goes_26 rfl (tg_s hα) (by omega) (by omega) ?_
  refine gw_lconst (q := 28) hc dX2_goes_27 rfl (v := 1) rfl ?_
  refine gw_lcmp (q := 29) hc dX2_goes_28 rfl (by omega) (by omega) ?_
  refine gw_ifc_ne  (q := 32) (t := 36) hc dX2_goes_29 rfl (by decide)  (fun c29 => ?_) (fun c29 => ?_)
  · skip
    refine gw_iconst (q := 37) hc dX2_goes_36 rfl ?_
    refine gw_istore (q := 39) hc dX2_goes_37 rfl xs_6 (by decide) (n2p xg_5 rfl) ?_
    refine gw_iload_n (q := 40) hc dX2_goes_39 rfl rfl xg_3 ?_
    refine gw_i2l (q := 41) hc dX2_goes_40 rfl (by omega) ?_
    refine gw_aload_n (q := 42) hc dX2_goes_41 rfl rfl xg_0 ?_
    refine gw_get (q := 45) hc dX2_goes_42 rfl cE_MO 0 (by decide) q1252 (fun _ h => h) (tg_m hα) xg_0 ?_
    refine gw_iload_n (q := 46) hc dX2_goes_45 rfl rfl xg_1 ?_
    refine gw_iconst (q := 47) hc dX2_goes_46 rfl ?_
    refine gw_iadd (q := 48) hc dX2_goes_47 rfl ?_
    refine gw_lald (q := 49) hc dX2_goes_48 rfl (tg_s hα) (by omega) (by omega) ?_
    refine gw_lcmp (q := 50) hc dX2_goes_49 rfl (by omega) (by omega) ?_
    refine gw_ifc_le  (q := 53) (t := 94) hc dX2_goes_50 rfl (by decide)  (fun c50 => ?_) (fun c50 => ?_)
    · skip
      refine gw_iload_n (q := 95) hc dX2_goes_94 rfl rfl xg_3 ?_
      refine gw_if_gt  (q := 98) (t := 103) hc dX2_goes_95 rfl (by decide) (by omega) (fun c95 => ?_) (fun c95 => ?_)
      · skip
        refine gw_lload (q := 105) hc dX2_goes_103 rfl xg_4 ?_
        exact gw_lret hc dX2_goes_105 ⟨_, rfl, ⟨by unfold goF; (repeat' split) <;> omega, rfl⟩⟩
      · skip
        refine gw_iload (q := 100) hc dX2_goes_98 rfl xg_6 ?_
        refine gw_if_eq  (q := 103) (t := 106) hc dX2_goes_100 rfl (by decide) (by omega) (fun c100 => ?_) (fun c100 => ?_)
        · skip
          refine gw_aload_n (q := 107) hc dX2_goes_106 rfl rfl xg_0 ?_
          refine gw_get (q := 110) hc dX2_goes_107 rfl cE_MO 0 (by decide) q1252 (fun _ h => h) (tg_m hα) xg_0 ?_
          refine gw_iload_n (q := 111) hc dX2_goes_110 rfl rfl xg_1 ?_
          refine gw_iconst (q := 112) hc dX2_goes_111 rfl ?_
          refine gw_iadd (q := 113) hc dX2_goes_112 rfl ?_
          refine gw_lald (q := 114) hc dX2_goes_113 rfl (tg_s hα) (by omega) (by omega) ?_
          refine gw_lconst (q := 115) hc dX2_goes_114 rfl (v := 0) rfl ?_
          refine gw_lcmp (q := 116) hc dX2_goes_115 rfl (by omega) (by omega) ?_
          refine gw_ifc_ne  (q := 119) (t := 131) hc dX2_goes_116 rfl (by decide)  (fun c116 => ?_) (fun c116 => ?_)
          · skip
            refine gw_lload (q := 133) hc dX2_goes_131 rfl xg_4 ?_
            refine gw_lconst (q := 134) hc dX2_goes_133 rfl (v := 0) rfl ?_
            refine gw_lcmp (q := 135) hc dX2_goes_134 rfl (by omega) (by omega) ?_
            refine gw_ifc_ne  (q := 138) (t := 142) hc dX2_goes_135 rfl (by decide)  (fun c135 => ?_) (fun c135 => ?_)
            · skip
              refine gw_lload (q := 144) hc dX2_goes_142 rfl xg_4 ?_
              refine gw_aload_n (q := 145) hc dX2_goes_144 rfl rfl xg_0 ?_
              refine gw_get (q := 148) hc dX2_goes_145 rfl cE_MO 0 (by decide) q1252 (fun _ h => h) (tg_m hα) xg_0 ?_
              refine gw_iload_n (q := 149) hc dX2_goes_148 rfl rfl xg_1 ?_
              refine gw_iconst (q := 150) hc dX2_goes_149 rfl ?_
              refine gw_iadd (q := 151) hc dX2_goes_150 rfl ?_
              refine gw_lald (q := 152) hc dX2_goes_151 rfl (tg_s hα) (by omega) (by omega) ?_
              refine gw_ladd (q := 153) hc dX2_goes_152 rfl ?_
              refine gw_lstore (q := 155) hc dX2_goes_153 rfl xs_7 xs_8 (by decide) (n2p xg_6 rfl) ?_
              refine gw_lload (q := 157) hc dX2_goes_155 rfl xg_7 ?_
              refine gw_ldc2 (q := 160) hc dX2_goes_157 rfl (v := 6000) q1395 (by decide) ?_
              refine gw_lcmp (q := 161) hc dX2_goes_160 rfl (by omega) (by omega) ?_
              refine gw_ifc_le  (q := 164) (t := 170) hc dX2_goes_161 rfl (by decide)  (fun c161 => ?_) (fun c161 => ?_)
              · skip
                refine gw_lload (q := 172) hc dX2_goes_170 rfl xg_7 ?_
                exact gw_lret hc dX2_goes_172 ⟨_, rfl, ⟨by unfold goF; (repeat' split) <;> omega, rfl⟩⟩
              · skip
                refine gw_ldc2 (q := 167) hc dX2_goes_164 rfl (v := 6000) q1395 (by decide) ?_
                refine gw_goto (q := 172) hc dX2_goes_167 (by decide) ?_
                exact gw_lret hc dX2_goes_172 ⟨_, rfl, ⟨by unfold goF; (repeat' split) <;> omega, rfl⟩⟩
            · skip
              refine gw_lconst (q := 139) hc dX2_goes_138 rfl (v := 0) rfl ?_
              refine gw_goto (q := 153) hc dX2_goes_139 (by decide) ?_
              refine gw_lstore (q := 155) hc dX2_goes_153 rfl xs_7 xs_8 (by decide) (n2p xg_6 rfl) ?_
              refine gw_lload (q := 157) hc dX2_goes_155 rfl xg_7 ?_
              refine gw_ldc2 (q := 160) hc dX2_goes_157 rfl (v := 6000) q1395 (by decide) ?_
              refine gw_lcmp (q := 161) hc dX2_goes_160 rfl (by omega) (by omega) ?_
              refine gw_ifc_le  (q := 164) (t := 170) hc dX2_goes_161 rfl (by decide)  (fun c161 => ?_) (fun c161 => ?_)
              · skip
                refine gw_lload (q := 172) hc dX2_goes_170 rfl xg_7 ?_
                exact gw_lret hc dX2_goes_172 ⟨_, rfl, ⟨by unfold goF; (repeat' split) <;> omega, rfl⟩⟩
              · skip
                refine gw_ldc2 (q := 167) hc dX2_goes_164 rfl (v := 6000) q1395 (by decide) ?_
                refine gw_goto (q := 172) hc dX2_goes_167 (by decide) ?_
                exact gw_lret hc dX2_goes_172 ⟨_, rfl, ⟨by unfold goF; (repeat' split) <;> omega, rfl⟩⟩
          · skip
            refine gw_lload (q := 121) hc dX2_goes_119 rfl xg_4 ?_
            refine gw_aload_n (q := 122) hc dX2_goes_121 rfl rfl xg_0 ?_
            refine gw_get (q := 125) hc dX2_goes_122 rfl cE_MO 0 (by decide) q1252 (fun _ h => h) (tg_m hα) xg_0 ?_
            refine gw_iload_n (q := 126) hc dX2_goes_125 rfl rfl xg_1 ?_
            refine gw_iconst (q := 127) hc dX2_goes_126 rfl ?_
            refine gw_iadd (q := 128) hc dX2_goes_127 rfl ?_
            refine gw_lald (q := 129) hc dX2_goes_128 rfl (tg_s hα) (by omega) (by omega) ?_
            refine gw_ladd (q := 130) hc dX2_goes_129 rfl ?_
            exact gw_lret hc dX2_goes_130 ⟨_, rfl, ⟨by unfold goF; (repeat' split) <;> omega, rfl⟩⟩
        · skip
          refine gw_lload (q := 105) hc dX2_goes_103 rfl xg_4 ?_
          exact gw_lret hc dX2_goes_105 ⟨_, rfl, ⟨by unfold goF; (repeat' split) <;> omega, rfl⟩⟩
    · skip
      refine gw_iload_n (q := 54) hc dX2_goes_53 rfl rfl xg_3 ?_
      refine gw_i2l (q := 55) hc dX2_goes_54 rfl (by omega) ?_
      refine gw_aload_n (q := 56) hc dX2_goes_55 rfl rfl xg_0 ?_
      refine gw_get (q := 59) hc dX2_goes_56 rfl cE_MO 0 (by decide) q1252 (fun _ h => h) (tg_m hα) xg_0 ?_
      refine gw_iload_n (q := 60) hc dX2_goes_59 rfl rfl xg_1 ?_
      refine gw_iload_n (q := 61) hc dX2_goes_60 rfl rfl xg_2 ?_
      refine gw_callS (q := 64) (bc' := 0) (bs' := 0) (As := [_, _]) hc dX2_goes_61 rfl q1313 mw_X2_at rfl rfl (m_X2_at) ⟨Nat.le_of_ble_eq_true rfl, Nat.le_of_ble_eq_true rfl⟩ (Nat.le_of_ble_eq_true rfl) (Nat.le_of_ble_eq_true rfl) (Nat.le_of_ble_eq_true rfl) (goI fun r61 G61 h61 => ?_)
      obtain ⟨rfl, rfl⟩ := h61
      refine gw_iconst (q := 65) hc dX2_goes_64 rfl ?_
      refine gw_iadd (q := 66) hc dX2_goes_65 rfl ?_
      refine gw_lald (q := 67) hc dX2_goes_66 rfl (tg_s hα) (by omega) (by omega) ?_
      refine gw_lmul (q := 68) hc dX2_goes_67 rfl ?_
      refine gw_ldc2 (q := 71) hc dX2_goes_68 rfl (v := 100) q1317 (by decide) ?_
      refine gw_ldiv (q := 72) hc dX2_goes_71 rfl (by omega) (by omega) ?_
      refine gw_lstore (q := 74) hc dX2_goes_72 rfl xs_7 xs_8 (by decide) (n2p xg_6 rfl) ?_
      refine gw_lload (q := 76) hc dX2_goes_74 rfl xg_4 ?_
      refine gw_iload (q := 78) hc dX2_goes_76 rfl xg_6 ?_
      refine gw_if_eq  (q := 81) (t := 90) hc dX2_goes_78 rfl (by decide) (by omega) (fun c78 => ?_) (fun c78 => ?_)
      · skip
        refine gw_lload (q := 92) hc dX2_goes_90 rfl xg_7 ?_
        refine gw_ladd (q := 93) hc dX2_goes_92 rfl ?_
        exact gw_lret hc dX2_goes_93 ⟨_, rfl, ⟨by unfold goF; (repeat' split) <;> omega, rfl⟩⟩
      · skip
        refine gw_lload (q := 83) hc dX2_goes_81 rfl xg_7 ?_
        refine gw_ldc2 (q := 86) hc dX2_goes_83 rfl (v := 2) q1248 (by decide) ?_
        refine gw_ldiv (q := 87) hc dX2_goes_86 rfl (by omega) (by omega) ?_
        refine gw_goto (q := 92) hc dX2_goes_87 (by decide) ?_
        refine gw_ladd (q := 93) hc dX2_goes_92 rfl ?_
        exact gw_lret hc dX2_goes_93 ⟨_, rfl, ⟨by unfold goF; (repeat' split) <;> omega, rfl⟩⟩
  · skip
    refine gw_iconst (q := 33) hc dX2_goes_32 rfl ?_
    refine gw_goto (q := 37) hc dX2_goes_33 (by decide) ?_
    refine gw_istore (q := 39) hc dX2_goes_37 rfl xs_6 (by decide) (n2p xg_5 rfl) ?_
    refine gw_iload_n (q := 40) hc dX2_goes_39 rfl rfl xg_3 ?_
    refine gw_i2l (q := 41) hc dX2_goes_40 rfl (by omega) ?_
    refine gw_aload_n (q := 42) hc dX2_goes_41 rfl rfl xg_0 ?_
    refine gw_get (q := 45) hc dX2_goes_42 rfl cE_MO 0 (by decide) q1252 (fun _ h => h) (tg_m hα) xg_0 ?_
    refine gw_iload_n (q := 46) hc dX2_goes_45 rfl rfl xg_1 ?_
    refine gw_iconst (q := 47) hc dX2_goes_46 rfl ?_
    refine gw_iadd (q := 48) hc dX2_goes_47 rfl ?_
    refine gw_lald (q := 49) hc dX2_goes_48 rfl (tg_s hα) (by omega) (by omega) ?_
    refine gw_lcmp (q := 50) hc dX2_goes_49 rfl (by omega) (by omega) ?_
    refine gw_ifc_le  (q := 53) (t := 94) hc dX2_goes_50 rfl (by decide)  (fun c50 => ?_) (fun c50 => ?_)
    · skip
      refine gw_iload_n (q := 95) hc dX2_goes_94 rfl rfl xg_3 ?_
      refine gw_if_gt  (q := 98) (t := 103) hc dX2_goes_95 rfl (by decide) (by omega) (fun c95 => ?_) (fun c95 => ?_)
      · skip
        refine gw_lload (q := 105) hc dX2_goes_103 rfl xg_4 ?_
        exact gw_lret hc dX2_goes_105 ⟨_, rfl, ⟨by unfold goF; (repeat' split) <;> omega, rfl⟩⟩
      · skip
        refine gw_iload (q := 100) hc dX2_goes_98 rfl xg_6 ?_
        refine gw_if_eq  (q := 103) (t := 106) hc dX2_goes_100 rfl (by decide) (by omega) (fun c100 => ?_) (fun c100 => ?_)
        · skip
          refine gw_aload_n (q := 107) hc dX2_goes_106 rfl rfl xg_0 ?_
          refine gw_get (q := 110) hc dX2_goes_107 rfl cE_MO 0 (by decide) q1252 (fun _ h => h) (tg_m hα) xg_0 ?_
          refine gw_iload_n (q := 111) hc dX2_goes_110 rfl rfl xg_1 ?_
          refine gw_iconst (q := 112) hc dX2_goes_111 rfl ?_
          refine gw_iadd (q := 113) hc dX2_goes_112 rfl ?_
          refine gw_lald (q := 114) hc dX2_goes_113 rfl (tg_s hα) (by omega) (by omega) ?_
          refine gw_lconst (q := 115) hc dX2_goes_114 rfl (v := 0) rfl ?_
          refine gw_lcmp (q := 116) hc dX2_goes_115 rfl (by omega) (by omega) ?_
          refine gw_ifc_ne  (q := 119) (t := 131) hc dX2_goes_116 rfl (by decide)  (fun c116 => ?_) (fun c116 => ?_)
          · skip
            refine gw_lload (q := 133) hc dX2_goes_131 rfl xg_4 ?_
            refine gw_lconst (q := 134) hc dX2_goes_133 rfl (v := 0) rfl ?_
            refine gw_lcmp (q := 135) hc dX2_goes_134 rfl (by omega) (by omega) ?_
            refine gw_ifc_ne  (q := 138) (t := 142) hc dX2_goes_135 rfl (by decide)  (fun c135 => ?_) (fun c135 => ?_)
            · skip
              refine gw_lload (q := 144) hc dX2_goes_142 rfl xg_4 ?_
              refine gw_aload_n (q := 145) hc dX2_goes_144 rfl rfl xg_0 ?_
              refine gw_get (q := 148) hc dX2_goes_145 rfl cE_MO 0 (by decide) q1252 (fun _ h => h) (tg_m hα) xg_0 ?_
              refine gw_iload_n (q := 149) hc dX2_goes_148 rfl rfl xg_1 ?_
              refine gw_iconst (q := 150) hc dX2_goes_149 rfl ?_
              refine gw_iadd (q := 151) hc dX2_goes_150 rfl ?_
              refine gw_lald (q := 152) hc dX2_goes_151 rfl (tg_s hα) (by omega) (by omega) ?_
              refine gw_ladd (q := 153) hc dX2_goes_152 rfl ?_
              refine gw_lstore (q := 155) hc dX2_goes_153 rfl xs_7 xs_8 (by decide) (n2p xg_6 rfl) ?_
              refine gw_lload (q := 157) hc dX2_goes_155 rfl xg_7 ?_
              refine gw_ldc2 (q := 160) hc dX2_goes_157 rfl (v := 6000) q1395 (by decide) ?_
              refine gw_lcmp (q := 161) hc dX2_goes_160 rfl (by omega) (by omega) ?_
              refine gw_ifc_le  (q := 164) (t := 170) hc dX2_goes_161 rfl (by decide)  (fun c161 => ?_) (fun c161 => ?_)
              · skip
                refine gw_lload (q := 172) hc dX2_goes_170 rfl xg_7 ?_
                exact gw_lret hc dX2_goes_172 ⟨_, rfl, ⟨by unfold goF; (repeat' split) <;> omega, rfl⟩⟩
              · skip
                refine gw_ldc2 (q := 167) hc dX2_goes_164 rfl (v := 6000) q1395 (by decide) ?_
                refine gw_goto (q := 172) hc dX2_goes_167 (by decide) ?_
                exact gw_lret hc dX2_goes_172 ⟨_, rfl, ⟨by unfold goF; (repeat' split) <;> omega, rfl⟩⟩
            · skip
              refine gw_lconst (q := 139) hc dX2_goes_138 rfl (v := 0) rfl ?_
              refine gw_goto (q := 153) hc dX2_goes_139 (by decide) ?_
              refine gw_lstore (q := 155) hc dX2_goes_153 rfl xs_7 xs_8 (by decide) (n2p xg_6 rfl) ?_
              refine gw_lload (q := 157) hc dX2_goes_155 rfl xg_7 ?_
              refine gw_ldc2 (q := 160) hc dX2_goes_157 rfl (v := 6000) q1395 (by decide) ?_
              refine gw_lcmp (q := 161) hc dX2_goes_160 rfl (by omega) (by omega) ?_
              refine gw_ifc_le  (q := 164) (t := 170) hc dX2_goes_161 rfl (by decide)  (fun c161 => ?_) (fun c161 => ?_)
              · skip
                refine gw_lload (q := 172) hc dX2_goes_170 rfl xg_7 ?_
                exact gw_lret hc dX2_goes_172 ⟨_, rfl, ⟨by unfold goF; (repeat' split) <;> omega, rfl⟩⟩
              · skip
                refine gw_ldc2 (q := 167) hc dX2_goes_164 rfl (v := 6000) q1395 (by decide) ?_
                refine gw_goto (q := 172) hc dX2_goes_167 (by decide) ?_
                exact gw_lret hc dX2_goes_172 ⟨_, rfl, ⟨by unfold goF; (repeat' split) <;> omega, rfl⟩⟩
          · skip
            refine gw_lload (q := 121) hc dX2_goes_119 rfl xg_4 ?_
            refine gw_aload_n (q := 122) hc dX2_goes_121 rfl rfl xg_0 ?_
            refine gw_get (q := 125) hc dX2_goes_122 rfl cE_MO 0 (by decide) q1252 (fun _ h => h) (tg_m hα) xg_0 ?_
            refine gw_iload_n (q := 126) hc dX2_goes_125 rfl rfl xg_1 ?_
            refine gw_iconst (q := 127) hc dX2_goes_126 rfl ?_
            refine gw_iadd (q := 128) hc dX2_goes_127 rfl ?_
            refine gw_lald (q := 129) hc dX2_goes_128 rfl (tg_s hα) (by omega) (by omega) ?_
            refine gw_ladd (q := 130) hc dX2_goes_129 rfl ?_
            exact gw_lret hc dX2_goes_130 ⟨_, rfl, ⟨by unfold goF; (repeat' split) <;> omega, rfl⟩⟩
        · skip
          refine gw_lload (q := 105) hc dX2_goes_103 rfl xg_4 ?_
          exact gw_lret hc dX2_goes_105 ⟨_, rfl, ⟨by unfold goF; (repeat' split) <;> omega, rfl⟩⟩
    · skip
      refine gw_iload_n (q := 54) hc dX2_goes_53 rfl rfl xg_3 ?_
      refine gw_i2l (q := 55) hc dX2_goes_54 rfl (by omega) ?_
      refine gw_aload_n (q := 56) hc dX2_goes_55 rfl rfl xg_0 ?_
      refine gw_get (q := 59) hc dX2_goes_56 rfl cE_MO 0 (by decide) q1252 (fun _ h => h) (tg_m hα) xg_0 ?_
      refine gw_iload_n (q := 60) hc dX2_goes_59 rfl rfl xg_1 ?_
      refine gw_iload_n (q := 61) hc dX2_goes_60 rfl rfl xg_2 ?_
      refine gw_callS (q := 64) (bc' := 0) (bs' := 0) (As := [_, _]) hc dX2_goes_61 rfl q1313 mw_X2_at rfl rfl (m_X2_at) ⟨Nat.le_of_ble_eq_true rfl, Nat.le_of_ble_eq_true rfl⟩ (Nat.le_of_ble_eq_true rfl) (Nat.le_of_ble_eq_true rfl) (Nat.le_of_ble_eq_true rfl) (goI fun r61 G61 h61 => ?_)
      obtain ⟨rfl, rfl⟩ := h61
      refine gw_iconst (q := 65) hc dX2_goes_64 rfl ?_
      refine gw_iadd (q := 66) hc dX2_goes_65 rfl ?_
      refine gw_lald (q := 67) hc dX2_goes_66 rfl (tg_s hα) (by omega) (by omega) ?_
      refine gw_lmul (q := 68) hc dX2_goes_67 rfl ?_
      refine gw_ldc2 (q := 71) hc dX2_goes_68 rfl (v := 100) q1317 (by decide) ?_
      refine gw_ldiv (q := 72) hc dX2_goes_71 rfl (by omega) (by omega) ?_
      refine gw_lstore (q := 74) hc dX2_goes_72 rfl xs_7 xs_8 (by decide) (n2p xg_6 rfl) ?_
      refine gw_lload (q := 76) hc dX2_goes_74 rfl xg_4 ?_
      refine gw_iload (q := 78) hc dX2_goes_76 rfl xg_6 ?_
      refine gw_if_eq  (q := 81) (t := 90) hc dX2_goes_78 rfl (by decide) (by omega) (fun c78 => ?_) (fun c78 => ?_)
      · skip
        refine gw_lload (q := 92) hc dX2_goes_90 rfl xg_7 ?_
        refine gw_ladd (q := 93) hc dX2_goes_92 rfl ?_
        exact gw_lret hc dX2_goes_93 ⟨_, rfl, ⟨by unfold goF; (repeat' split) <;> omega, rfl⟩⟩
      · skip
        refine gw_lload (q := 83) hc dX2_goes_81 rfl xg_7 ?_
        refine gw_ldc2 (q := 86) hc dX2_goes_83 rfl (v := 2) q1248 (by decide) ?_
        refine gw_ldiv (q := 87) hc dX2_goes_86 rfl (by omega) (by omega) ?_
        refine gw_goto (q := 92) hc dX2_goes_87 (by decide) ?_
        refine gw_ladd (q := 93) hc dX2_goes_92 rfl ?_
        exact gw_lret hc dX2_goes_93 ⟨_, rfl, ⟨by unfold goF; (repeat' split) <;> omega, rfl⟩⟩

