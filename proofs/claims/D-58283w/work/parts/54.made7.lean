/-! ===== THE CLASS: a new meter ===== -/
set_option maxRecDepth 100000
/-- the row with a meter more, no seal yet -/
def adF (S : Int → Int) (t : Int) : Int → Int := fun i => if i = 10 then S 10 else if i = 11 + 13 * S 7 + 6 then 0 else coF S t i
section ADF
variable {S : Int → Int} {t : Int} {k : Nat}
theorem adF_7 (h7 : 0 ≤ S 7) : adF S t 7 = S 7 + 1 := by unfold adF; rw [if_neg (by omega), if_neg (by omega), coF_7 h7]
theorem adF_o (hk : S 7 = k) : ∀ i, 0 ≤ i → i < 138 → i ≠ 7 → i ≠ 9 → (i < 11 + 13 * (k : Int) ∨ 11 + 13 * (k : Int) + 13 ≤ i) → adF S t i = S i := fun i _ _ h7 _ h => by
  unfold adF
  by_cases e : i = 10
  · rw [if_pos e, e]
  · rw [if_neg e, if_neg (by omega), coF_o (by omega) (by omega) ⟨h7, e⟩]
theorem adF_n (hk : S 7 = k) : ∀ j, 1 ≤ j → j ≤ 12 → adF S t (11 + 13 * (k : Int) + j) = if j = 2 then 100 else 0 := fun j h1 h2 => by
  unfold adF
  rw [if_neg (by omega)]
  by_cases e : j = 6
  · rw [if_pos (by omega), if_neg (by omega)]
  · rw [if_neg (by omega), show 11 + 13 * (k : Int) + j = 0 + 11 + 13 * S 7 + j by omega, coF_n (by omega) (by omega) h2, if_neg (by omega)]
    by_cases e2 : j = 2
    · rw [if_pos e2, if_pos e2]
    · rw [if_neg e2, if_neg e2, if_neg e]
theorem adF_p (hk : S 7 = k) : adF S t (11 + 13 * (k : Int)) = if k = 0 then -1 else t := by
  unfold adF
  rw [if_neg (by omega), if_neg (by omega), show 11 + 13 * (k : Int) = 0 + 11 + 13 * S 7 + 0 by omega, coF_n (by omega) (by omega) (by omega), if_pos rfl]
  by_cases e : k = 0
  · rw [if_pos (by omega), if_pos e]
  · rw [if_neg (by omega), if_neg e]
/-- the seal: the meter's cell is the row's -/
theorem coF_ad (hk : S 7 = k) : ∀ i, i ≠ 10 → i ≠ 11 + 13 * (k : Int) + 6 → coF S t i = adF S t i := fun i h1 h2 => by
  unfold adF
  rw [if_neg h1, if_neg (by omega)]
theorem coF_6 (hk : S 7 = k) : coF S t (11 + 13 * (k : Int) + 6) = S 10 + 1 := by
  rw [show 11 + 13 * (k : Int) + 6 = 0 + 11 + 13 * S 7 + 6 by omega, coF_n (by omega) (by omega) (by omega)]
  rfl
end ADF

