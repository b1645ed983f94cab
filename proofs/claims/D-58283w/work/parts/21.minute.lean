/-! ===== a minute, on the row ===== -/
set_option maxRecDepth 100000
def pm1 (S : Int → Int) (p m : Int) : Int → Int := fu S (p + 11 + 13 * m + 5) (S (p + 11 + 13 * m + 5) + pw S m)
def pmG (S : Int → Int) (p m : Int) : Int := goF (pm1 S p m) p m (pw S m)
def pm2 (S : Int → Int) (p m : Int) : Int → Int := fu (pm1 S p m) (p + 11 + 13 * m + 1) (pmG S p m % 6000)
def pmN (S : Int → Int) (p m : Int) : Int := if ngt (pm2 S p m (p + 6)) then 4 else 3
def pm3 (S : Int → Int) (p m : Int) : Int → Int := fu (pm2 S p m) (p + 11 + 13 * m + pmN S p m) (pm2 S p m (p + 11 + 13 * m + pmN S p m) + pmG S p m / 6000)
def pm4 (S : Int → Int) (p m : Int) : Int → Int := fu (pm3 S p m) (p + 11 + 13 * m + 9) (pm3 S p m (p + 11 + 13 * m + 9) + 1)
def pm5 (S : Int → Int) (p m : Int) : Int → Int := fu (pm4 S p m) (p + 11 + 13 * m + 9) 0
def pmF (S : Int → Int) (p m : Int) : Int → Int :=
  if pm4 S p m (p + 3) ≤ pm4 S p m (p + 11 + 13 * m + 9) then fu (pm5 S p m) (p + 11 + 13 * m + 2) (pm5 S p m (p + 11 + 13 * m + 2) + if pm5 S p m (p + 11 + 13 * m + 2) < 160 then 1 else 0)
  else pm4 S p m
def pmT (S : Int → Int) (p m : Int) : Int := pmG S p m / 6000
/-- the settings are within their bounds -/
def stW (S : Int → Int) (p : Int) : Prop := (0 ≤ S (p + 0) ∧ S (p + 0) ≤ 99) ∧ (0 ≤ S (p + 1) ∧ S (p + 1) ≤ 9) ∧ (0 ≤ S (p + 2) ∧ S (p + 2) ≤ 1) ∧ (100 ≤ S (p + 3) ∧ S (p + 3) ≤ 5000) ∧ (0 ≤ S (p + 4) ∧ S (p + 4) ≤ 99) ∧ (0 ≤ S (p + 5) ∧ S (p + 5) ≤ 99)
/-- a meter's numbers are within their bounds, when T minutes have passed -/
def mtW (S : Int → Int) (p m T : Int) : Prop :=
  (0 ≤ S (p + 11 + 13 * m + 1) ∧ S (p + 11 + 13 * m + 1) < 6000) ∧ (100 ≤ S (p + 11 + 13 * m + 2) ∧ S (p + 11 + 13 * m + 2) ≤ 160) ∧ (0 ≤ S (p + 11 + 13 * m + 3) ∧ 0 ≤ S (p + 11 + 13 * m + 4) ∧ S (p + 11 + 13 * m + 3) + S (p + 11 + 13 * m + 4) ≤ 13 * T) ∧
  (0 ≤ S (p + 11 + 13 * m + 5) ∧ S (p + 11 + 13 * m + 5) ≤ 48000 * T) ∧ (S (p + 11 + 13 * m + 7) = 0 ∨ S (p + 11 + 13 * m + 7) = 1) ∧ (0 ≤ S (p + 11 + 13 * m + 9) ∧ S (p + 11 + 13 * m + 9) < 5000) ∧
  (0 ≤ S (p + 11 + 13 * m + 11) ∧ S (p + 11 + 13 * m + 11) ≤ S (p + 11 + 13 * m + 3)) ∧ (0 ≤ S (p + 11 + 13 * m + 12) ∧ S (p + 11 + 13 * m + 12) ≤ S (p + 11 + 13 * m + 4))
theorem pwF_bd {S : Int → Int} (hL : loadW S) (k : Int) : ∀ j : Nat, (j : Int) ≤ S 8 → 0 ≤ pwF S k j ∧ pwF S k j ≤ 4000 * j
  | 0, _ => by simp [pwF]
  | j + 1, h => by
    have ih := pwF_bd hL k j (by omega)
    have hl := hL.2 j (by omega) (by omega)
    simp only [pwF]
    split
    · omega
    · omega
theorem pw_bd {S : Int → Int} (hL : loadW S) (k : Int) : 0 ≤ pw S k ∧ pw S k ≤ 48000 := by
  have h8 := hL.1
  have h := pwF_bd hL k (S 8).toNat (by omega)
  unfold pw
  omega
theorem goF_bd {S : Int → Int} {p m w : Int} (hw : 0 ≤ w ∧ w ≤ 48000) (h1 : 0 ≤ S (p + 11 + 13 * m + 1) ∧ S (p + 11 + 13 * m + 1) < 6000) (h2 : 0 ≤ S (p + 11 + 13 * m + 2) ∧ S (p + 11 + 13 * m + 2) ≤ 160) (hc1 : 0 ≤ S (p + 1) ∧ S (p + 1) ≤ 9) : 0 ≤ goF S p m w ∧ goF S p m w < 83000 := by
  have hb : 0 ≤ w * S (p + 11 + 13 * m + 2) ∧ w * S (p + 11 + 13 * m + 2) ≤ 48000 * 160 := ⟨Int.mul_nonneg hw.1 h2.1, Int.mul_le_mul hw.2 h2.2 h2.1 (by omega)⟩
  unfold goF
  (repeat' split) <;> omega
section PM
variable {S : Int → Int} {p m T : Int}
theorem pm1_o {i : Int} (h : i ≠ p + 11 + 13 * m + 5) : pm1 S p m i = S i := fu_n h
theorem pmG_bd (hL : loadW S) (hs : stW S p) (hm : mtW S p m T) (h0 : 0 ≤ m) : 0 ≤ pmG S p m ∧ pmG S p m < 83000 := by
  obtain ⟨a0, a1, a2, a3, a4, a5⟩ := hs
  obtain ⟨b1, b2, b3, b5, b7, b9, b11, b12⟩ := hm
  exact goF_bd (pw_bd hL m) (by rw [pm1_o (by omega)]; exact b1) (by rw [pm1_o (by omega)]; omega) (by rw [pm1_o (by omega)]; exact a1)
theorem pmT_bd (hL : loadW S) (hs : stW S p) (hm : mtW S p m T) (h0 : 0 ≤ m) : 0 ≤ pmT S p m ∧ pmT S p m ≤ 13 := by
  have := pmG_bd hL hs hm h0
  unfold pmT
  omega
theorem pmN_r : pmN S p m = 3 ∨ pmN S p m = 4 := by unfold pmN; split <;> omega
theorem pmF_o {i : Int} (h1 : i ≠ p + 11 + 13 * m + 1) (h2 : i ≠ p + 11 + 13 * m + 2) (h3 : i ≠ p + 11 + 13 * m + 3) (h4 : i ≠ p + 11 + 13 * m + 4) (h5 : i ≠ p + 11 + 13 * m + 5) (h9 : i ≠ p + 11 + 13 * m + 9) : pmF S p m i = S i := by
  have hn : i ≠ p + 11 + 13 * m + pmN S p m := by rcases pmN_r (S := S) (p := p) (m := m) with h | h <;> rw [h] <;> assumption
  unfold pmF
  split
  · rw [fu_n h2, pm5, fu_n h9, pm4, fu_n h9, pm3, fu_n hn, pm2, fu_n h1, pm1, fu_n h5]
  · rw [pm4, fu_n h9, pm3, fu_n hn, pm2, fu_n h1, pm1, fu_n h5]
theorem pmF_1 : pmF S p m (p + 11 + 13 * m + 1) = pmG S p m % 6000 := by
  have hn : p + 11 + 13 * m + 1 ≠ p + 11 + 13 * m + pmN S p m := by rcases pmN_r (S := S) (p := p) (m := m) with h | h <;> rw [h] <;> omega
  unfold pmF
  split
  · rw [fu_n (by omega), pm5, fu_n (by omega), pm4, fu_n (by omega), pm3, fu_n hn, pm2, fu_s]
  · rw [pm4, fu_n (by omega), pm3, fu_n hn, pm2, fu_s]
theorem pmF_5 : pmF S p m (p + 11 + 13 * m + 5) = S (p + 11 + 13 * m + 5) + pw S m := by
  have hn : p + 11 + 13 * m + 5 ≠ p + 11 + 13 * m + pmN S p m := by rcases pmN_r (S := S) (p := p) (m := m) with h | h <;> rw [h] <;> omega
  unfold pmF
  split
  · rw [fu_n (by omega), pm5, fu_n (by omega), pm4, fu_n (by omega), pm3, fu_n hn, pm2, fu_n (by omega), pm1, fu_s]
  · rw [pm4, fu_n (by omega), pm3, fu_n hn, pm2, fu_n (by omega), pm1, fu_s]
theorem pmN_e (h0 : 0 ≤ m) : pmN S p m = if ngt (S (p + 6)) then 4 else 3 := by
  unfold pmN
  rw [show pm2 S p m (p + 6) = S (p + 6) by rw [pm2, fu_n (by omega), pm1, fu_n (by omega)]]
theorem pmF_d (j : Int) (hj : j = 3 ∨ j = 4) : pmF S p m (p + 11 + 13 * m + j) = S (p + 11 + 13 * m + j) + (if pmN S p m = j then pmT S p m else 0) := by
  have h4 : pm4 S p m (p + 11 + 13 * m + j) = S (p + 11 + 13 * m + j) + (if pmN S p m = j then pmT S p m else 0) := by
    rw [pm4, fu_n (by omega), pm3]
    by_cases h : pmN S p m = j
    · rw [h, fu_s, if_pos rfl, pm2, fu_n (by omega), pm1, fu_n (by omega)]; rfl
    · rw [fu_n (by omega), if_neg h, pm2, fu_n (by omega), pm1, fu_n (by omega)]; omega
  unfold pmF
  split
  · rw [fu_n (by omega), pm5, fu_n (by omega)]; exact h4
  · exact h4
theorem pm4_9 : pm4 S p m (p + 11 + 13 * m + 9) = S (p + 11 + 13 * m + 9) + 1 := by
  have hn : p + 11 + 13 * m + 9 ≠ p + 11 + 13 * m + pmN S p m := by rcases pmN_r (S := S) (p := p) (m := m) with h | h <;> rw [h] <;> omega
  rw [pm4, fu_s, pm3, fu_n hn, pm2, fu_n (by omega), pm1, fu_n (by omega)]
theorem pm4_o {i : Int} (h1 : i ≠ p + 11 + 13 * m + 1) (h3 : i ≠ p + 11 + 13 * m + 3) (h4 : i ≠ p + 11 + 13 * m + 4) (h5 : i ≠ p + 11 + 13 * m + 5) (h9 : i ≠ p + 11 + 13 * m + 9) : pm4 S p m i = S i := by
  have hn : i ≠ p + 11 + 13 * m + pmN S p m := by rcases pmN_r (S := S) (p := p) (m := m) with h | h <;> rw [h] <;> assumption
  rw [pm4, fu_n h9, pm3, fu_n hn, pm2, fu_n h1, pm1, fu_n h5]
theorem pmF_9 (h0 : 0 ≤ m) : pmF S p m (p + 11 + 13 * m + 9) = if S (p + 3) ≤ S (p + 11 + 13 * m + 9) + 1 then 0 else S (p + 11 + 13 * m + 9) + 1 := by
  unfold pmF
  rw [pm4_9, pm4_o (by omega) (by omega) (by omega) (by omega) (by omega)]
  split
  · rw [fu_n (by omega), pm5, fu_s]
  · exact pm4_9
theorem pmF_2 (h0 : 0 ≤ m) : pmF S p m (p + 11 + 13 * m + 2) = if S (p + 3) ≤ S (p + 11 + 13 * m + 9) + 1 then S (p + 11 + 13 * m + 2) + (if S (p + 11 + 13 * m + 2) < 160 then 1 else 0) else S (p + 11 + 13 * m + 2) := by
  have h5 : pm5 S p m (p + 11 + 13 * m + 2) = S (p + 11 + 13 * m + 2) := by rw [pm5, fu_n (by omega), pm4_o (by omega) (by omega) (by omega) (by omega) (by omega)]
  unfold pmF
  rw [pm4_9, pm4_o (i := p + 3) (by omega) (by omega) (by omega) (by omega) (by omega)]
  split
  · rw [fu_s, h5]
  · exact pm4_o (by omega) (by omega) (by omega) (by omega) (by omega)
theorem pmF_mt (hL : loadW S) (hs : stW S p) (hm : mtW S p m T) (h0 : 0 ≤ m) : mtW (pmF S p m) p m (T + 1) := by
  have hG := pmG_bd hL hs hm h0
  have hT := pmT_bd hL hs hm h0
  have hw := pw_bd hL m
  have h3 := pmF_d (S := S) (p := p) (m := m) 3 (Or.inl rfl)
  have h4 := pmF_d (S := S) (p := p) (m := m) 4 (Or.inr rfl)
  obtain ⟨a0, a1, a2, a3, a4, a5⟩ := hs
  obtain ⟨b1, b2, b3, b5, b7, b9, b11, b12⟩ := hm
  have hn := pmN_r (S := S) (p := p) (m := m)
  unfold mtW
  rw [pmF_1, pmF_2 h0, h3, h4, pmF_5, pmF_9 h0, pmF_o (i := p + 11 + 13 * m + 7) (by omega) (by omega) (by omega) (by omega) (by omega) (by omega), pmF_o (i := p + 11 + 13 * m + 11) (by omega) (by omega) (by omega) (by omega) (by omega) (by omega), pmF_o (i := p + 11 + 13 * m + 12) (by omega) (by omega) (by omega) (by omega) (by omega) (by omega)]
  refine ⟨by omega, ?_, ?_, by omega, b7, ?_, ?_, ?_⟩
  · split
    · split <;> omega
    · omega
  · rcases hn with h | h <;> simp only [h] <;> (refine ⟨?_, ?_, ?_⟩ <;> simp <;> omega)
  · split <;> omega
  · rcases hn with h | h <;> simp only [h] <;> simp <;> omega
  · rcases hn with h | h <;> simp only [h] <;> simp <;> omega
end PM
