/-! ===== minutes, on the row ===== -/
set_option maxRecDepth 100000
/-- the same meters, tree and loads -/
def sameS (S S' : Int → Int) : Prop := S' 7 = S 7 ∧ S' 8 = S 8 ∧ (∀ k, 0 ≤ k → k < 7 → S' (11 + 13 * k) = S (11 + 13 * k)) ∧ ∀ i, 102 ≤ i → i < 138 → S' i = S i
theorem sameS_rf {S : Int → Int} : sameS S S := ⟨rfl, rfl, fun _ _ _ => rfl, fun _ _ _ => rfl⟩
theorem sameS_tr {S S1 S2 : Int → Int} (h1 : sameS S S1) (h2 : sameS S1 S2) : sameS S S2 := ⟨h2.1.trans h1.1, h2.2.1.trans h1.2.1, fun k a b => (h2.2.2.1 k a b).trans (h1.2.2.1 k a b), fun i a b => (h2.2.2.2 i a b).trans (h1.2.2.2 i a b)⟩
theorem sameS_pm0 {S : Int → Int} {m : Int} (h0 : 0 ≤ m) (h7 : m < 7) : sameS S (pmF S 0 m) := by
  refine ⟨pmF_o (by omega) (by omega) (by omega) (by omega) (by omega) (by omega), pmF_o (by omega) (by omega) (by omega) (by omega) (by omega) (by omega), fun k a b => pmF_o (by omega) (by omega) (by omega) (by omega) (by omega) (by omega), fun i a b => pmF_o (by omega) (by omega) (by omega) (by omega) (by omega) (by omega)⟩
theorem sameS_pm1 {S : Int → Int} {m : Int} (h0 : 0 ≤ m) : sameS S (pmF S 138 m) := by
  refine ⟨pmF_o (by omega) (by omega) (by omega) (by omega) (by omega) (by omega), pmF_o (by omega) (by omega) (by omega) (by omega) (by omega) (by omega), fun k a b => pmF_o (by omega) (by omega) (by omega) (by omega) (by omega) (by omega), fun i a b => pmF_o (by omega) (by omega) (by omega) (by omega) (by omega) (by omega)⟩
theorem sameS_fu {S : Int → Int} {k v : Int} (h : k ≠ 7 ∧ k ≠ 8 ∧ (∀ j, 0 ≤ j → j < 7 → k ≠ 11 + 13 * j) ∧ (k < 102 ∨ 138 ≤ k)) : sameS S (fu S k v) := ⟨fu_n (by omega), fu_n (by omega), fun j a b => fu_n (Ne.symm (h.2.2.1 j a b)), fun i a b => fu_n (by omega)⟩
section STR
variable {S S' : Int → Int}
theorem tree_E (hE : sameS S S') (hT : treeW S) : treeW S' := by
  obtain ⟨e7, e8, et, el⟩ := hE
  have h7 := hT.1
  refine ⟨by rw [e7]; exact h7, fun k h0 hk => ?_⟩
  rw [e7] at hk
  rw [et k (by omega) (by omega)]
  exact hT.2 k h0 hk
theorem load_E (hE : sameS S S') (hL : loadW S) : loadW S' := by
  obtain ⟨e7, e8, et, el⟩ := hE
  have h8 := hL.1
  refine ⟨by rw [e8]; exact h8, fun j h0 hj => ?_⟩
  rw [e8] at hj
  rw [e7, el (102 + 3 * j) (by omega) (by omega), el (102 + 3 * j + 1) (by omega) (by omega), el (102 + 3 * j + 2) (by omega) (by omega)]
  exact hL.2 j h0 hj
theorem thrF_E (hE : sameS S S') (hT : treeW S) {o : Int} (ho : 0 ≤ o) : ∀ (n : Nat) (k : Int), 0 ≤ k → k < S 7 → thrF S' o n k = thrF S o n k
  | 0, k, _, _ => rfl
  | n + 1, k, h0, h7 => by
    have h8 := hT.1
    simp only [thrF]
    by_cases h : o < k
    · rw [if_pos h, if_pos h, hE.2.2.1 k h0 (by omega)]
      have ht := hT.2 k (by omega) h7
      exact thrF_E hE hT ho n _ ht.1 (by omega)
    · rw [if_neg h, if_neg h]
theorem thr_E (hE : sameS S S') (hT : treeW S) {k o : Int} (ho : 0 ≤ o) (h0 : 0 ≤ k) (h7 : k < S 7) : thr S' k o = thr S k o := thrF_E hE hT ho 8 k h0 h7
theorem pwF_E (hE : sameS S S') (hT : treeW S) (hL : loadW S) {k : Int} (hk : 0 ≤ k) : ∀ j : Nat, (j : Int) ≤ S 8 → pwF S' k j = pwF S k j
  | 0, _ => rfl
  | j + 1, h => by
    have h8 := hL.1
    have hl := hL.2 j (by omega) (by omega)
    simp only [pwF]
    rw [pwF_E hE hT hL hk j (by omega), hE.2.2.2 (102 + 3 * (j : Int)) (by omega) (by omega), hE.2.2.2 (102 + 3 * (j : Int) + 1) (by omega) (by omega), hE.2.2.2 (102 + 3 * (j : Int) + 2) (by omega) (by omega), thr_E hE hT hk hl.1.1 hl.1.2]
theorem pw_E (hE : sameS S S') (hT : treeW S) (hL : loadW S) {k : Int} (hk : 0 ≤ k) : pw S' k = pw S k := by
  have h8 := hL.1
  unfold pw
  rw [hE.2.1]
  exact pwF_E hE hT hL hk _ (by omega)
end STR
/-- a minute of all meters -/
def mnS (S : Int → Int) : Nat → Int → Int
  | 0 => S
  | k + 1 => pmF (mnS S k) 0 k
def mnT (S : Int → Int) : Nat → Int
  | 0 => 0
  | k + 1 => mnT S k + pmT (mnS S k) 0 k
def miF (S : Int → Int) : Int → Int := fu (mnS S (S 7).toNat) (0 + 6) (mnS S (S 7).toNat (0 + 6) + 1)
def miT (S : Int → Int) : Int := mnT S (S 7).toNat
def paF (S : Int → Int) : Nat → Int → Int
  | 0 => S
  | n + 1 => miF (paF S n)
def paT (S : Int → Int) : Nat → Int
  | 0 => 0
  | n + 1 => paT S n + miT (paF S n)
/-- all that a passing minute asks -/
def pasW (S : Int → Int) (T : Int) : Prop := treeW S ∧ loadW S ∧ stW S 0 ∧ S (0 + 6) = T ∧ 0 ≤ T ∧ ∀ m, 0 ≤ m → m < S 7 → mtW S 0 m T
theorem mt_E {S S' : Int → Int} {p m T : Int} (h : ∀ j, 1 ≤ j → j ≤ 12 → S' (p + 11 + 13 * m + j) = S (p + 11 + 13 * m + j)) (hm : mtW S p m T) : mtW S' p m T := by
  unfold mtW
  rw [h 1 (by omega) (by omega), h 2 (by omega) (by omega), h 3 (by omega) (by omega), h 4 (by omega) (by omega), h 5 (by omega) (by omega), h 7 (by omega) (by omega), h 9 (by omega) (by omega), h 11 (by omega) (by omega), h 12 (by omega) (by omega)]
  exact hm
theorem st_E {S S' : Int → Int} {p : Int} (h : ∀ j, 0 ≤ j → j ≤ 5 → S' (p + j) = S (p + j)) (hs : stW S p) : stW S' p := by
  unfold stW
  rw [h 0 (by omega) (by omega), h 1 (by omega) (by omega), h 2 (by omega) (by omega), h 3 (by omega) (by omega), h 4 (by omega) (by omega), h 5 (by omega) (by omega)]
  exact hs
theorem mn_inv {S : Int → Int} {T : Int} (h : pasW S T) : ∀ k : Nat, (k : Int) ≤ S 7 → sameS S (mnS S k) ∧ (∀ j, 0 ≤ j → j ≤ 10 → mnS S k j = S j) ∧ (∀ m : Int, 0 ≤ m → m < k → mtW (mnS S k) 0 m (T + 1)) ∧ (∀ m : Int, k ≤ m → m < S 7 → mtW (mnS S k) 0 m T) ∧ (∀ m : Int, k ≤ m → m < 7 → ∀ j, 0 ≤ j → j ≤ 12 → mnS S k (0 + 11 + 13 * m + j) = S (0 + 11 + 13 * m + j))
  | 0, _ => ⟨sameS_rf, fun _ _ _ => rfl, fun m h1 h2 => by omega, fun m h1 h2 => h.2.2.2.2.2 m (by omega) h2, fun _ _ _ _ _ _ => rfl⟩
  | k + 1, hk => by
    have h7 := h.1.1
    obtain ⟨i1, i2, i3, i4, i5⟩ := mn_inv h k (by omega)
    have hst : stW (mnS S k) 0 := st_E (fun j a b => by rw [Int.zero_add]; exact i2 j a (by omega)) h.2.2.1
    have hL := load_E i1 h.2.1
    refine ⟨sameS_tr i1 (sameS_pm0 (by omega) (by omega)), fun j a b => ?_, fun m h1 h2 => ?_, fun m h1 h2 => ?_, fun m h1 h2 j a b => ?_⟩
    · show pmF (mnS S k) 0 k j = S j
      rw [pmF_o (by omega) (by omega) (by omega) (by omega) (by omega) (by omega)]
      exact i2 j a b
    · show mtW (pmF (mnS S k) 0 k) 0 m (T + 1)
      by_cases hm : m = k
      · subst hm
        exact pmF_mt hL hst (i4 _ (by omega) (by omega)) (by omega)
      · exact mt_E (fun j a b => pmF_o (by omega) (by omega) (by omega) (by omega) (by omega) (by omega)) (i3 m h1 (by omega))
    · show mtW (pmF (mnS S k) 0 k) 0 m T
      exact mt_E (fun j a b => pmF_o (by omega) (by omega) (by omega) (by omega) (by omega) (by omega)) (i4 m (by omega) h2)
    · show pmF (mnS S k) 0 k _ = _
      rw [pmF_o (by omega) (by omega) (by omega) (by omega) (by omega) (by omega)]
      exact i5 m (by omega) h2 j a b
theorem mi_inv {S : Int → Int} {T : Int} (h : pasW S T) : pasW (miF S) (T + 1) ∧ sameS S (miF S) := by
  have h7 := h.1.1
  obtain ⟨i1, i2, i3, -, -⟩ := mn_inv h (S 7).toNat (by omega)
  have hE : sameS S (miF S) := sameS_tr i1 (sameS_fu ⟨by omega, by omega, fun j a b => by omega, by omega⟩)
  refine ⟨⟨tree_E hE h.1, load_E hE h.2.1, st_E (fun j a b => ?_) h.2.2.1, ?_, by have := h.2.2.2.2.1; omega, fun m a b => ?_⟩, hE⟩
  · rw [Int.zero_add]
    show fu _ _ _ j = S j
    rw [fu_n (by omega)]
    exact i2 j a (by omega)
  · show fu _ _ _ _ = _
    rw [fu_s, i2 _ (by omega) (by omega), h.2.2.2.1]
  · rw [hE.1] at b
    exact mt_E (fun j c d => fu_n (by omega)) (i3 m a (by omega))
theorem pa_inv {S : Int → Int} {T : Int} (h : pasW S T) : ∀ n : Nat, pasW (paF S n) (T + n) ∧ sameS S (paF S n)
  | 0 => ⟨by rw [show T + ((0 : Nat) : Int) = T by omega]; exact h, sameS_rf⟩
  | n + 1 => by
    obtain ⟨i1, i2⟩ := pa_inv h n
    have := mi_inv i1
    exact ⟨by rw [show T + ((n + 1 : Nat) : Int) = T + n + 1 by omega]; exact this.1, sameS_tr i2 this.2⟩
theorem mnT_bd {S : Int → Int} {T : Int} (h : pasW S T) : ∀ k : Nat, (k : Int) ≤ S 7 → 0 ≤ mnT S k ∧ mnT S k ≤ 13 * k
  | 0, _ => by simp [mnT]
  | k + 1, hk => by
    have h7 := h.1.1
    have ih := mnT_bd h k (by omega)
    obtain ⟨i1, i2, i3, i4, -⟩ := mn_inv h k (by omega)
    have hst : stW (mnS S k) 0 := st_E (fun j a b => by rw [Int.zero_add]; exact i2 j a (by omega)) h.2.2.1
    have := pmT_bd (load_E i1 h.2.1) hst (i4 k (by omega) (by omega)) (by omega)
    simp only [mnT]
    omega
theorem miT_bd {S : Int → Int} {T : Int} (h : pasW S T) : 0 ≤ miT S ∧ miT S ≤ 91 := by
  have h7 := h.1.1
  have := mnT_bd h (S 7).toNat (by omega)
  unfold miT
  omega
theorem paT_bd {S : Int → Int} {T : Int} (h : pasW S T) : ∀ n : Nat, 0 ≤ paT S n ∧ paT S n ≤ 91 * n
  | 0 => by simp [paT]
  | n + 1 => by
    have ih := paT_bd h n
    have := miT_bd (pa_inv h n).1
    simp only [paT]
    omega
