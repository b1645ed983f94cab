/-! ===== a meter's minutes, alone and among the others ===== -/
set_option maxRecDepth 100000
section PTR
variable {S S' : Int → Int} {p p' m : Int}
/-- two rows that agree on a meter and the settings go on alike -/
theorem pmG_tr (hw : pw S' m = pw S m) (hs : ∀ j, 0 ≤ j → j ≤ 2 → S' (p' + j) = S (p + j)) (hm : ∀ j, 1 ≤ j → j ≤ 12 → S' (p' + 11 + 13 * m + j) = S (p + 11 + 13 * m + j)) (h0 : 0 ≤ m) : pmG S' p' m = pmG S p m := by
  unfold pmG goF
  rw [hw]
  have a0 : pm1 S' p' m (p' + 0) = pm1 S p m (p + 0) := by rw [pm1_o (by omega), pm1_o (by omega)]; exact hs 0 (by omega) (by omega)
  have a1 : pm1 S' p' m (p' + 1) = pm1 S p m (p + 1) := by rw [pm1_o (by omega), pm1_o (by omega)]; exact hs 1 (by omega) (by omega)
  have a2 : pm1 S' p' m (p' + 2) = pm1 S p m (p + 2) := by rw [pm1_o (by omega), pm1_o (by omega)]; exact hs 2 (by omega) (by omega)
  have b1 : pm1 S' p' m (p' + 11 + 13 * m + 1) = pm1 S p m (p + 11 + 13 * m + 1) := by rw [pm1_o (by omega), pm1_o (by omega)]; exact hm 1 (by omega) (by omega)
  have b2 : pm1 S' p' m (p' + 11 + 13 * m + 2) = pm1 S p m (p + 11 + 13 * m + 2) := by rw [pm1_o (by omega), pm1_o (by omega)]; exact hm 2 (by omega) (by omega)
  have b7 : pm1 S' p' m (p' + 11 + 13 * m + 7) = pm1 S p m (p + 11 + 13 * m + 7) := by rw [pm1_o (by omega), pm1_o (by omega)]; exact hm 7 (by omega) (by omega)
  rw [a0, a1, a2, b1, b2, b7]
theorem pmF_tr (hw : pw S' m = pw S m) (hs : ∀ j, 0 ≤ j → j ≤ 6 → S' (p' + j) = S (p + j)) (hm : ∀ j, 1 ≤ j → j ≤ 12 → S' (p' + 11 + 13 * m + j) = S (p + 11 + 13 * m + j)) (h0 : 0 ≤ m) : ∀ j, 1 ≤ j → j ≤ 12 → pmF S' p' m (p' + 11 + 13 * m + j) = pmF S p m (p + 11 + 13 * m + j) := by
  intro j h1 h12
  have hG := pmG_tr hw (fun j a b => hs j a (by omega)) hm h0
  have hN : pmN S' p' m = pmN S p m := by rw [pmN_e h0, pmN_e h0, hs 6 (by omega) (by omega)]
  have hT : pmT S' p' m = pmT S p m := by unfold pmT; rw [hG]
  have hj : j = 1 ∨ j = 2 ∨ j = 3 ∨ j = 4 ∨ j = 5 ∨ j = 9 ∨ (j ≠ 1 ∧ j ≠ 2 ∧ j ≠ 3 ∧ j ≠ 4 ∧ j ≠ 5 ∧ j ≠ 9) := by omega
  rcases hj with rfl | rfl | rfl | rfl | rfl | rfl | hj
  · rw [pmF_1, pmF_1, hG]
  · rw [pmF_2 h0, pmF_2 h0, hs 3 (by omega) (by omega), hm 9 (by omega) (by omega), hm 2 (by omega) (by omega)]
  · rw [pmF_d 3 (Or.inl rfl), pmF_d 3 (Or.inl rfl), hN, hT, hm 3 (by omega) (by omega)]
  · rw [pmF_d 4 (Or.inr rfl), pmF_d 4 (Or.inr rfl), hN, hT, hm 4 (by omega) (by omega)]
  · rw [pmF_5, pmF_5, hw, hm 5 (by omega) (by omega)]
  · rw [pmF_9 h0, pmF_9 h0, hs 3 (by omega) (by omega), hm 9 (by omega) (by omega)]
  · rw [pmF_o (by omega) (by omega) (by omega) (by omega) (by omega) (by omega), pmF_o (by omega) (by omega) (by omega) (by omega) (by omega) (by omega)]
    exact hm j h1 h12
theorem mt_tr {T : Int} (h : ∀ j, 1 ≤ j → j ≤ 12 → S' (p' + 11 + 13 * m + j) = S (p + 11 + 13 * m + j)) (hm : mtW S p m T) : mtW S' p' m T := by
  unfold mtW
  rw [h 1 (by omega) (by omega), h 2 (by omega) (by omega), h 3 (by omega) (by omega), h 4 (by omega) (by omega), h 5 (by omega) (by omega), h 7 (by omega) (by omega), h 9 (by omega) (by omega), h 11 (by omega) (by omega), h 12 (by omega) (by omega)]
  exact hm
theorem st_tr (h : ∀ j, 0 ≤ j → j ≤ 5 → S' (p' + j) = S (p + j)) (hs : stW S p) : stW S' p' := by
  unfold stW
  rw [h 0 (by omega) (by omega), h 1 (by omega) (by omega), h 2 (by omega) (by omega), h 3 (by omega) (by omega), h 4 (by omega) (by omega), h 5 (by omega) (by omega)]
  exact hs
theorem pm_tn : pmF S p m (p + 11 + 13 * m + 3) + pmF S p m (p + 11 + 13 * m + 4) = S (p + 11 + 13 * m + 3) + S (p + 11 + 13 * m + 4) + pmT S p m := by
  rw [pmF_d 3 (Or.inl rfl), pmF_d 4 (Or.inr rfl)]
  rcases pmN_r (S := S) (p := p) (m := m) with h | h <;> simp only [h] <;> simp <;> omega
end PTR
/-- a minute of the house, as one of its meters sees it -/
theorem mn_at {S : Int → Int} {T : Int} (h : pasW S T) {m : Int} (h0 : 0 ≤ m) : ∀ k : Nat, (k : Int) ≤ S 7 → m < k → ∀ j, 1 ≤ j → j ≤ 12 → mnS S k (0 + 11 + 13 * m + j) = pmF S 0 m (0 + 11 + 13 * m + j)
  | 0, _, hk, _, _, _ => by omega
  | k + 1, h7, hk, j, h1, h12 => by
    have ht := h.1.1
    show pmF (mnS S k) 0 k (0 + 11 + 13 * m + j) = _
    by_cases hm : m = k
    · subst hm
      obtain ⟨i1, i2, i3, i4, i5⟩ := mn_inv h k (by omega)
      exact pmF_tr (pw_E i1 h.1 h.2.1 h0) (fun j a b => by rw [Int.zero_add]; exact i2 j a (by omega)) (fun j a b => i5 _ (by omega) (by omega) j (by omega) b) h0 j h1 h12
    · rw [pmF_o (by omega) (by omega) (by omega) (by omega) (by omega) (by omega)]
      exact mn_at h h0 k (by omega) (by omega) j h1 h12
theorem mi_at {S : Int → Int} {T : Int} (h : pasW S T) {m : Int} (h0 : 0 ≤ m) (h7 : m < S 7) : ∀ j, 1 ≤ j → j ≤ 12 → miF S (0 + 11 + 13 * m + j) = pmF S 0 m (0 + 11 + 13 * m + j) := fun j h1 h12 => by
  have ht := h.1.1
  show fu _ _ _ _ = _
  rw [fu_n (by omega)]
  exact mn_at h h0 _ (by omega) (by omega) j h1 h12
/-- what no minute changes -/
def pfx (i : Int) : Prop := i ≠ 6 ∧ ∀ m, 0 ≤ m → m < 7 → i ≠ 11 + 13 * m + 1 ∧ i ≠ 11 + 13 * m + 2 ∧ i ≠ 11 + 13 * m + 3 ∧ i ≠ 11 + 13 * m + 4 ∧ i ≠ 11 + 13 * m + 5 ∧ i ≠ 11 + 13 * m + 9
theorem mn_o {S : Int → Int} {i : Int} (hi : pfx i) : ∀ k : Nat, k ≤ 7 → mnS S k i = S i
  | 0, _ => rfl
  | k + 1, h => by
    show pmF (mnS S k) 0 k i = _
    have hk := hi.2 k (by omega) (by omega)
    rw [pmF_o (by omega) (by omega) (by omega) (by omega) (by omega) (by omega)]
    exact mn_o hi k (by omega)
theorem pa_o {S : Int → Int} {T : Int} (h : pasW S T) {i : Int} (hi : pfx i) : ∀ n : Nat, paF S n i = S i
  | 0 => rfl
  | n + 1 => by
    have h1 := (pa_inv h n).1
    have h7 := h1.1.1
    show fu _ _ _ i = _
    rw [fu_n (by have := hi.1; omega), mn_o hi _ (by omega)]
    exact pa_o h hi n
/-- the row beside: a house's meter m, n minutes on -/
def be1 (X : Int → Int) (m : Int) : Int → Int := fu (pmF X 138 m) 144 (pmF X 138 m 144 + 1)
def beR (S X : Int → Int) (m : Int) (n : Nat) : Prop := (∀ i, i < 138 → X i = S i) ∧ (∀ j, 0 ≤ j → j ≤ 5 → X (138 + j) = S (0 + j)) ∧ X (138 + 6) = S (0 + 6) + n ∧ ∀ j, 1 ≤ j → j ≤ 12 → X (138 + 11 + 13 * m + j) = paF S n (0 + 11 + 13 * m + j)
theorem be_0 {S X : Int → Int} {m : Int} (h : cpyR S X) (h0 : 0 ≤ m) (h7 : m < 7) : beR S X m 0 := by
  refine ⟨h.2, fun j a b => ?_, ?_, fun j a b => ?_⟩
  · rw [h.1 j a (by omega)]; exact congrArg S (by omega)
  · rw [h.1 6 (by omega) (by omega)]; exact (Int.add_zero _).symm
  · show _ = S _
    rw [show 138 + 11 + 13 * m + j = 138 + (0 + 11 + 13 * m + j) by omega]
    exact h.1 _ (by omega) (by omega)
section BE
variable {S X : Int → Int} {m T : Int} {n : Nat}
theorem be_same (h : beR S X m n) : sameS S X := ⟨h.1 _ (by omega), h.1 _ (by omega), fun k a b => h.1 _ (by omega), fun i a b => h.1 _ (by omega)⟩
theorem be_st (hW : pasW S T) (h : beR S X m n) : stW X 138 := st_tr h.2.1 hW.2.2.1
theorem be_mt (hW : pasW S T) (h : beR S X m n) (h0 : 0 ≤ m) (h7 : m < S 7) : mtW X 138 m (T + n) := by
  obtain ⟨a1, a2⟩ := pa_inv hW n
  exact mt_tr (S := paF S n) (p := 0) h.2.2.2 (a1.2.2.2.2.2 m h0 (by rw [a2.1]; exact h7))
theorem be_s (hW : pasW S T) (h : beR S X m n) (h0 : 0 ≤ m) (h7 : m < S 7) : beR S (be1 X m) m (n + 1) ∧ tnF (paF S (n + 1)) m = tnF (paF S n) m + pmT X 138 m := by
  obtain ⟨a1, a2⟩ := pa_inv hW n
  have ht := hW.1.1
  have hw : pw X m = pw (paF S n) m := by rw [pw_E (be_same h) hW.1 hW.2.1 h0, pw_E a2 hW.1 hW.2.1 h0]
  have h6 : ∀ j, 0 ≤ j → j ≤ 6 → X (138 + j) = paF S n (0 + j) := fun j x y => by
    by_cases hj : j = 6
    · subst hj; rw [h.2.2.1, hW.2.2.2.1, a1.2.2.2.1]
    · rw [h.2.1 j x (by omega), pa_o hW ⟨by omega, fun m a b => by omega⟩]
  have key := pmF_tr hw h6 h.2.2.2 h0
  have mi := mi_at a1 h0 (by rw [a2.1]; exact h7)
  have e : ∀ j, 1 ≤ j → j ≤ 12 → be1 X m (138 + 11 + 13 * m + j) = paF S (n + 1) (0 + 11 + 13 * m + j) := fun j a b => by
    rw [be1, fu_n (by omega), key j a b]
    exact (mi j a b).symm
  refine ⟨⟨fun i hi => ?_, fun j a b => ?_, ?_, e⟩, ?_⟩
  · rw [be1, fu_n (by omega), pmF_o (by omega) (by omega) (by omega) (by omega) (by omega) (by omega)]
    exact h.1 i hi
  · rw [be1, fu_n (by omega), pmF_o (by omega) (by omega) (by omega) (by omega) (by omega) (by omega)]
    exact h.2.1 j a b
  · rw [be1, show (138 : Int) + 6 = 144 by omega, fu_s, pmF_o (by omega) (by omega) (by omega) (by omega) (by omega) (by omega)]
    have := h.2.2.1
    rw [show (138 : Int) + 6 = 144 by omega] at this
    omega
  · have e3 := e 3 (by omega) (by omega)
    have e4 := e 4 (by omega) (by omega)
    have f3 := h.2.2.2 3 (by omega) (by omega)
    have f4 := h.2.2.2 4 (by omega) (by omega)
    have := pm_tn (S := X) (p := 138) (m := m)
    rw [be1, fu_n (by omega)] at e3 e4
    unfold tnF
    simp only [Int.zero_add] at e3 e4 f3 f4
    omega
end BE
/-! ===== what changes keep ===== -/
/-- the same in the row's 138 places -/
def rqE (S S' : Int → Int) : Prop := ∀ i, 0 ≤ i → i < 138 → S' i = S i
theorem rowW_E {S S' : Int → Int} {N : Int} (hE : rqE S S') (h : rowW S N) : rowW S' N := by
  have h7 := rw_7 h
  have e7 := hE 7 (by omega) (by omega)
  have h8 := rw_8 h
  have hs : sameS S S' := ⟨e7, hE 8 (by omega) (by omega), fun k a b => hE _ (by omega) (by omega), fun i a b => hE i (by omega) b⟩
  refine ⟨⟨tree_E hs h.1.1, load_E hs h.1.2.1, st_E (fun j a b => hE _ (by omega) (by omega)) h.1.2.2.1, rfl, by rw [hE _ (by omega) (by omega)]; exact h.1.2.2.2.2.1, fun m a b => ?_⟩, by rw [hE _ (by omega) (by omega)]; exact h.2.1, fun a => by rw [hE _ (by omega) (by omega)]; exact h.2.2.1 (by omega), by rw [hE _ (by omega) (by omega)]; exact h.2.2.2.1, fun m a b => ?_⟩
  · rw [e7] at b
    rw [hE (0 + 6) (by omega) (by omega)]
    exact mt_E (fun j c d => hE _ (by omega) (by omega)) (h.1.2.2.2.2.2 m a b)
  · rw [e7] at b
    rw [hE _ (by omega) (by omega)]
    exact h.2.2.2.2 m a b
theorem rowW_mono {S : Int → Int} {N N' : Int} (hN : N ≤ N') (h : rowW S N) : rowW S N' := ⟨h.1, h.2.1, h.2.2.1, by have := h.2.2.2.1; omega, fun m a b => by have := h.2.2.2.2 m a b; omega⟩
section KP
variable {S : Int → Int} {N : Int}
theorem rowW_pa (h : rowW S N) {n : Nat} (hn : S 6 + n ≤ 99999) : rowW (paF S n) N := by
  have h7 := rw_7 h
  obtain ⟨a1, a2⟩ := pa_inv h.1 n
  have e6 : paF S n (0 + 6) = S (0 + 6) + n := a1.2.2.2.1
  refine ⟨by rw [e6]; exact a1, by have : paF S n 6 = S 6 + n := e6; omega, fun x => by rw [a2.1] at x; rw [pa_o h.1 ⟨by omega, fun m a b => by omega⟩]; exact h.2.2.1 x, by rw [pa_o h.1 ⟨by omega, fun m a b => by omega⟩]; exact h.2.2.2.1, fun m a b => ?_⟩
  rw [a2.1] at b
  rw [pa_o h.1 ⟨by omega, fun k c d => by omega⟩]
  exact h.2.2.2.2 m a b
theorem rowW_set (h : rowW S N) {i v : Int} (hi : wnS i v = 0) : rowW (fu S i v) N := by
  have h7 := rw_7 h
  have hs := rw_s h
  have h5 : 0 ≤ i ∧ i ≤ 5 ∧ lowF i ≤ v ∧ v ≤ highF i := by unfold wnS at hi; split at hi <;> omega
  have hE : sameS S (fu S i v) := sameS_fu ⟨by omega, by omega, fun j a b => by omega, by omega⟩
  refine ⟨⟨tree_E hE h.1.1, load_E hE h.1.2.1, ?_, rfl, by rw [fu_n (by omega)]; exact h.1.2.2.2.2.1, fun m a b => ?_⟩, by rw [fu_n (by omega)]; exact h.2.1, fun x => by rw [hE.1] at x; rw [fu_n (by omega)]; exact h.2.2.1 x, by rw [fu_n (by omega)]; exact h.2.2.2.1, fun m a b => ?_⟩
  · simp only [stW, Int.zero_add, fu]
    unfold lowF highF at h5
    refine ⟨?_, ?_, ?_, ?_, ?_, ?_⟩ <;> split <;> rename_i e <;> first | omega | (subst e; simp at h5; omega)
  · rw [hE.1] at b
    rw [fu_n (by omega)]
    exact mt_E (fun j c d => fu_n (by omega)) (h.1.2.2.2.2.2 m a b)
  · rw [hE.1] at b
    rw [fu_n (by omega)]
    exact h.2.2.2.2 m a b
theorem rowW_ta (h : rowW S N) {m : Int} (h0 : 0 ≤ m) (hm : m < S 7) : rowW (taF S m) N := by
  have h7 := rw_7 h
  have hE : sameS S (taF S m) := sameS_fu ⟨by omega, by omega, fun j a b => by omega, by omega⟩
  refine ⟨⟨tree_E hE h.1.1, load_E hE h.1.2.1, st_E (fun j a b => fu_n (by omega)) h.1.2.2.1, rfl, by rw [taF, fu_n (by omega)]; exact h.1.2.2.2.2.1, fun k a b => ?_⟩, by rw [taF, fu_n (by omega)]; exact h.2.1, fun x => by rw [hE.1] at x; rw [taF, fu_n (by omega)]; exact h.2.2.1 x, by rw [taF, fu_n (by omega)]; exact h.2.2.2.1, fun k a b => ?_⟩
  · rw [hE.1] at b
    have hk := h.1.2.2.2.2.2 k a b
    rw [show taF S m (0 + 6) = S (0 + 6) by rw [taF, fu_n (by omega)]]
    by_cases e : k = m
    · subst e
      unfold mtW at hk ⊢
      rw [show taF S k (0 + 11 + 13 * k + 7) = 1 by rw [taF, fu_s]]
      simp only [taF]
      rw [fu_n (by omega), fu_n (by omega), fu_n (by omega), fu_n (by omega), fu_n (by omega), fu_n (by omega), fu_n (by omega), fu_n (by omega)]
      exact ⟨hk.1, hk.2.1, hk.2.2.1, hk.2.2.2.1, Or.inr trivial, hk.2.2.2.2.2⟩
    · exact mt_E (fun j c d => fu_n (by omega)) hk
  · rw [hE.1] at b
    rw [taF, fu_n (by omega)]
    exact h.2.2.2.2 k a b
theorem tuF_o {j i : Int} (hi : i ≠ 102 + 3 * j + 2) : tuF S j i = S i := fu_n hi
theorem rowW_tu (h : rowW S N) {j : Int} (h0 : 0 ≤ j) (hj : j < S 8) : rowW (tuF S j) N := by
  have h7 := rw_7 h
  have h8 := rw_8 h
  have hl := rw_l h
  refine ⟨⟨⟨by rw [tuF_o (by omega)]; exact h7, fun k a b => ?_⟩, ⟨by rw [tuF_o (by omega)]; exact h8, fun k a b => ?_⟩, st_E (fun k a b => tuF_o (by omega)) h.1.2.2.1, rfl, by rw [tuF_o (by omega)]; exact h.1.2.2.2.2.1, fun k a b => ?_⟩, by rw [tuF_o (by omega)]; exact h.2.1, fun x => by rw [tuF_o (by omega)] at x; rw [tuF_o (by omega)]; exact h.2.2.1 x, by rw [tuF_o (by omega)]; exact h.2.2.2.1, fun k a b => ?_⟩
  · rw [tuF_o (by omega)] at b
    rw [tuF_o (by omega)]
    exact h.1.1.2 k a b
  · rw [tuF_o (by omega)] at b
    have hk := hl k a b
    rw [tuF_o (i := 102 + 3 * k) (by omega), tuF_o (i := 7) (by omega), tuF_o (i := 102 + 3 * k + 1) (by omega)]
    refine ⟨hk.1, hk.2.1, ?_⟩
    by_cases e : k = j
    · subst e; rw [tuF, fu_s]; omega
    · rw [tuF_o (by omega)]; exact hk.2.2
  · rw [tuF_o (by omega)] at b
    rw [tuF_o (by omega)]
    exact mt_E (fun j c d => tuF_o (by omega)) (h.1.2.2.2.2.2 k a b)
  · rw [tuF_o (by omega)] at b
    rw [tuF_o (by omega)]
    exact h.2.2.2.2 k a b
theorem loF_o {m w i : Int} (h8 : 0 ≤ S 8) (hi : i < 102 + 3 * S 8 ∨ 102 + 3 * S 8 + 2 < i) (hn : i ≠ 8) : loF S m w i = S i := by
  rw [loF, fu_n hn, lo3, fu_n (by omega), fu_n (by omega), fu_n (by omega)]
theorem rowW_lo (h : rowW S N) {m w : Int} (hw : wnL S m w = 0) : rowW (loF S m w) N := by
  have h7 := rw_7 h
  have h8 := rw_8 h
  have hl := rw_l h
  have hh : (0 ≤ m ∧ m < S 7) ∧ (1 ≤ w ∧ w ≤ 4000) ∧ S 8 < 12 := by unfold wnL at hw; (repeat' split at hw) <;> omega
  have e8 : loF S m w 8 = S 8 + 1 := by rw [loF, fu_s, lo3_8 h8.1]
  have o : ∀ i, (i < 102 + 3 * S 8 ∨ 102 + 3 * S 8 + 2 < i) → i ≠ 8 → loF S m w i = S i := fun i a b => loF_o h8.1 a b
  refine ⟨⟨⟨by rw [o _ (by omega) (by omega)]; exact h7, fun k a b => ?_⟩, ⟨by rw [e8]; omega, fun k a b => ?_⟩, st_E (fun k a b => o _ (by omega) (by omega)) h.1.2.2.1, rfl, by rw [o _ (by omega) (by omega)]; exact h.1.2.2.2.2.1, fun k a b => ?_⟩, by rw [o _ (by omega) (by omega)]; exact h.2.1, fun x => by rw [o _ (by omega) (by omega)] at x; rw [o _ (by omega) (by omega)]; exact h.2.2.1 x, by rw [o _ (by omega) (by omega)]; exact h.2.2.2.1, fun k a b => ?_⟩
  · rw [o _ (by omega) (by omega)] at b
    rw [o _ (by omega) (by omega)]
    exact h.1.1.2 k a b
  · rw [e8] at b
    rw [o 7 (by omega) (by omega)]
    by_cases e : k = S 8
    · subst e
      have q0 : loF S m w (102 + 3 * S 8) = m := by rw [loF, fu_n (by omega), lo3, fu_n (by omega), fu_n (by omega), fu_s]
      have q1 : loF S m w (102 + 3 * S 8 + 1) = w := by rw [loF, fu_n (by omega), lo3, fu_n (by omega), fu_s]
      have q2 : loF S m w (102 + 3 * S 8 + 2) = 0 := by rw [loF, fu_n (by omega), lo3, fu_s]
      rw [q0, q1, q2]
      exact ⟨hh.1, hh.2.1, Or.inl rfl⟩
    · rw [o _ (by omega) (by omega), o _ (by omega) (by omega), o _ (by omega) (by omega)]
      exact hl k a (by omega)
  · rw [o _ (by omega) (by omega)] at b
    rw [o (0 + 6) (by omega) (by omega)]
    exact mt_E (fun j c d => o _ (by omega) (by omega)) (h.1.2.2.2.2.2 k a b)
  · rw [o _ (by omega) (by omega)] at b
    rw [o _ (by omega) (by omega)]
    exact h.2.2.2.2 k a b
/-- the row with a meter more, place by place -/
theorem coZ_z {i : Int} : ∀ k : Nat, 0 + 11 + 13 * S 7 ≤ i → i < 0 + 11 + 13 * S 7 + k → coZ S k i = 0
  | 0, _, _ => by omega
  | k + 1, a, b => by
    show fu _ _ _ i = 0
    by_cases e : i = 0 + 11 + 13 * S 7 + k
    · rw [e, fu_s]
    · rw [fu_n e]; exact coZ_z k a (by omega)
theorem coF_o {t i : Int} (h7 : 0 ≤ S 7) (hi : i < 0 + 11 + 13 * S 7 ∨ 0 + 11 + 13 * S 7 + 13 ≤ i) (hn : i ≠ 7 ∧ i ≠ 10) : coF S t i = S i := by
  rw [coF, fu_n (by omega), co4, fu_n (by omega), co3, fu_n (by omega), co2, fu_n (by omega), co1, fu_n (by omega)]
  exact coZ_o 13 (by omega)
theorem coF_7 {t : Int} (h7 : 0 ≤ S 7) : coF S t 7 = S 7 + 1 := by rw [coF, fu_s, co4_7 h7]
theorem co3_10 {t : Int} (h7 : 0 ≤ S 7) : co3 S t 10 = S 10 + 1 := by
  rw [co3, fu_n (by omega), co2, fu_n (by omega), co1, fu_s, coZ_o 13 (by omega)]
theorem coF_10 {t : Int} (h7 : 0 ≤ S 7) : coF S t 10 = S 10 + 1 := by
  rw [coF, fu_n (by omega), co4, fu_n (by omega), co3_10 h7]
theorem coF_n {t : Int} (h7 : 0 ≤ S 7) {j : Int} (h0 : 0 ≤ j) (h12 : j ≤ 12) : coF S t (0 + 11 + 13 * S 7 + j) = if j = 0 then (if S 7 = 0 then -1 else t) else if j = 2 then 100 else if j = 6 then S 10 + 1 else 0 := by
  rw [coF, fu_n (by omega), co4]
  by_cases e6 : j = 6
  · subst e6; rw [fu_s, co3_10 h7]; rfl
  · rw [fu_n (by omega), co3]
    by_cases e2 : j = 2
    · subst e2; rw [fu_s]; rfl
    · rw [fu_n (by omega), co2]
      by_cases e0 : j = 0
      · subst e0; rw [fu_s]; rfl
      · rw [fu_n (by omega), co1, fu_n (by omega), coZ_z 13 (by omega) (by omega), if_neg e0, if_neg e2, if_neg e6]
theorem rowW_co (h : rowW S N) {t : Int} (hw : wnM S t = 0) : rowW (coF S t) (N + 1) := by
  have h7 := rw_7 h
  have h8 := rw_8 h
  have hl := rw_l h
  have hh : S 7 < 7 ∧ (0 < S 7 → 0 ≤ t ∧ t < S 7) := by unfold wnM at hw; (repeat' split at hw) <;> omega
  have e7 := coF_7 (S := S) (t := t) h7.1
  have en := fun j a b => coF_n (S := S) (t := t) (j := j) h7.1 a b
  have o : ∀ i, (i < 0 + 11 + 13 * S 7 ∨ 0 + 11 + 13 * S 7 + 13 ≤ i) → (i ≠ 7 ∧ i ≠ 10) → coF S t i = S i := fun i a b => coF_o h7.1 a b
  refine ⟨⟨⟨by rw [e7]; omega, fun k a b => ?_⟩, ⟨by rw [o _ (by omega) (by omega)]; exact h8, fun k a b => ?_⟩, st_E (fun k a b => o _ (by omega) (by omega)) h.1.2.2.1, rfl, by rw [o _ (by omega) (by omega)]; exact h.1.2.2.2.2.1, fun k a b => ?_⟩, by rw [o _ (by omega) (by omega)]; exact h.2.1, fun x => ?_, by rw [coF_10 h7.1]; have := h.2.2.2.1; omega, fun k a b => ?_⟩
  · rw [e7] at b
    by_cases e : k = S 7
    · subst e
      have := en 0 (by omega) (by omega)
      rw [if_pos rfl, if_neg (by omega)] at this
      rw [show 11 + 13 * S 7 = 0 + 11 + 13 * S 7 + 0 by omega, this]
      exact hh.2 (by omega)
    · rw [o _ (by omega) (by omega)]
      exact h.1.1.2 k a (by omega)
  · rw [o _ (by omega) (by omega)] at b
    rw [e7, o _ (by omega) (by omega), o _ (by omega) (by omega), o _ (by omega) (by omega)]
    have := hl k a b
    exact ⟨⟨this.1.1, by omega⟩, this.2⟩
  · rw [e7] at b
    rw [o (0 + 6) (by omega) (by omega)]
    by_cases e : k = S 7
    · subst e
      have h6 := (rw_6 h).1
      unfold mtW
      rw [en 1 (by omega) (by omega), en 2 (by omega) (by omega), en 3 (by omega) (by omega), en 4 (by omega) (by omega), en 5 (by omega) (by omega), en 7 (by omega) (by omega), en 9 (by omega) (by omega), en 11 (by omega) (by omega), en 12 (by omega) (by omega)]
      simp
      omega
    · exact mt_E (fun j c d => o _ (by omega) (by omega)) (h.1.2.2.2.2.2 k a (by omega))
  · by_cases e : S 7 = 0
    · have := en 0 (by omega) (by omega)
      rw [if_pos rfl, if_pos e, e] at this
      exact this
    · rw [o _ (by omega) (by omega)]
      exact h.2.2.1 (by omega)
  · rw [e7] at b
    by_cases e : k = S 7
    · subst e
      have := en 6 (by omega) (by omega)
      simp at this
      rw [this]
      have := h.2.2.2.1
      omega
    · rw [o _ (by omega) (by omega)]
      have := h.2.2.2.2 k a (by omega)
      omega
/-- a visit, place by place -/
theorem vi7_o {m i : Int} (hi : i ≠ 9 ∧ i ≠ 0 + 11 + 13 * m + 2 ∧ i ≠ 0 + 11 + 13 * m + 8 ∧ i ≠ 0 + 11 + 13 * m + 9 ∧ i ≠ 0 + 11 + 13 * m + 10 ∧ i ≠ 0 + 11 + 13 * m + 11 ∧ i ≠ 0 + 11 + 13 * m + 12) : vi7 S m i = S i := by
  rw [vi7, fu_n (by omega), vi6, fu_n (by omega), vi5, fu_n (by omega), vi4, fu_n (by omega), vi3, fu_n (by omega), vi2, fu_n (by omega), vi1, fu_n (by omega)]
theorem viF_7 {m i : Int} (h0 : 0 ≤ m) (hi : i ≠ 10 ∧ i ≠ 0 + 11 + 13 * m + 6 ∧ i ≠ 0 + 11 + 13 * m + 7) : viF S m i = vi7 S m i := by
  unfold viF
  split
  · rw [fu_n (by omega), vi9, fu_n (by omega), vi8, fu_n (by omega)]
  · rfl
theorem viF_o {m i : Int} (h0 : 0 ≤ m) (hi : i ≠ 9 ∧ i ≠ 10 ∧ i ≠ 0 + 11 + 13 * m + 2 ∧ i ≠ 0 + 11 + 13 * m + 6 ∧ i ≠ 0 + 11 + 13 * m + 7 ∧ i ≠ 0 + 11 + 13 * m + 8 ∧ i ≠ 0 + 11 + 13 * m + 9 ∧ i ≠ 0 + 11 + 13 * m + 10 ∧ i ≠ 0 + 11 + 13 * m + 11 ∧ i ≠ 0 + 11 + 13 * m + 12) : viF S m i = S i := by
  rw [viF_7 h0 (by omega), vi7_o (by omega)]
theorem viF_9 {m : Int} (h0 : 0 ≤ m) : viF S m 9 = S 9 + biF S m := by
  rw [viF_7 h0 (by omega), vi7, fu_n (by omega), vi6, fu_n (by omega), vi5, fu_n (by omega), vi4, fu_s, vi3, fu_n (by omega), vi2, fu_n (by omega), vi1, fu_n (by omega)]
theorem viF_j2 {m : Int} (h0 : 0 ≤ m) : viF S m (0 + 11 + 13 * m + 2) = 100 := by
  rw [viF_7 h0 (by omega), vi7, fu_n (by omega), vi6, fu_n (by omega), vi5, fu_s]
theorem viF_j8 {m : Int} (h0 : 0 ≤ m) : viF S m (0 + 11 + 13 * m + 8) = S (0 + 11 + 13 * m + 8) + biF S m := by
  rw [viF_7 h0 (by omega), vi7, fu_n (by omega), vi6, fu_n (by omega), vi5, fu_n (by omega), vi4, fu_n (by omega), vi3, fu_s, vi2, fu_n (by omega), vi1, fu_n (by omega)]
theorem viF_j9 {m : Int} (h0 : 0 ≤ m) : viF S m (0 + 11 + 13 * m + 9) = 0 := by
  rw [viF_7 h0 (by omega), vi7, fu_n (by omega), vi6, fu_s]
theorem viF_j10 {m : Int} (h0 : 0 ≤ m) : viF S m (0 + 11 + 13 * m + 10) = S (0 + 11 + 13 * m + 10) + 1 := by
  rw [viF_7 h0 (by omega), vi7, fu_s, vi6, fu_n (by omega), vi5, fu_n (by omega), vi4, fu_n (by omega), vi3, fu_n (by omega), vi2, fu_n (by omega), vi1, fu_n (by omega)]
theorem viF_j11 {m : Int} (h0 : 0 ≤ m) : viF S m (0 + 11 + 13 * m + 11) = S (0 + 11 + 13 * m + 3) := by
  rw [viF_7 h0 (by omega), vi7, fu_n (by omega), vi6, fu_n (by omega), vi5, fu_n (by omega), vi4, fu_n (by omega), vi3, fu_n (by omega), vi2, fu_n (by omega), vi1, fu_s]
theorem viF_j12 {m : Int} (h0 : 0 ≤ m) : viF S m (0 + 11 + 13 * m + 12) = S (0 + 11 + 13 * m + 4) := by
  rw [viF_7 h0 (by omega), vi7, fu_n (by omega), vi6, fu_n (by omega), vi5, fu_n (by omega), vi4, fu_n (by omega), vi3, fu_n (by omega), vi2, fu_s, vi1, fu_n (by omega)]
theorem viF_10 {m : Int} (h0 : 0 ≤ m) : viF S m 10 = if S (0 + 11 + 13 * m + 7) = 1 then S 10 + 1 else S 10 := by
  unfold viF
  rw [vi7_7 h0]
  split
  · rw [fu_n (by omega), vi9, fu_n (by omega), vi8, fu_s, vi7_o (by omega)]
  · exact vi7_o (by omega)
theorem viF_j6 {m : Int} (h0 : 0 ≤ m) : viF S m (0 + 11 + 13 * m + 6) = if S (0 + 11 + 13 * m + 7) = 1 then S 10 + 1 else S (0 + 11 + 13 * m + 6) := by
  unfold viF
  rw [vi7_7 h0]
  split
  · rw [fu_n (by omega), vi9, fu_s, vi8, fu_s, vi7_o (by omega)]
  · exact vi7_o (by omega)
theorem viF_j7 {m : Int} (h0 : 0 ≤ m) : viF S m (0 + 11 + 13 * m + 7) = if S (0 + 11 + 13 * m + 7) = 1 then 0 else S (0 + 11 + 13 * m + 7) := by
  unfold viF
  rw [vi7_7 h0]
  split
  · rw [fu_s]
  · exact vi7_o (by omega)
theorem rowW_vi (h : rowW S N) {m : Int} (h0 : 0 ≤ m) (hm : m < S 7) : rowW (viF S m) (N + 1) := by
  have h7 := rw_7 h
  have h8 := rw_8 h
  have hE : sameS S (viF S m) := ⟨viF_o h0 (by omega), viF_o h0 (by omega), fun k a b => viF_o h0 (by omega), fun i a b => viF_o h0 (by omega)⟩
  refine ⟨⟨tree_E hE h.1.1, load_E hE h.1.2.1, st_E (fun j a b => viF_o h0 (by omega)) h.1.2.2.1, rfl, by rw [viF_o h0 (by omega)]; exact h.1.2.2.2.2.1, fun k a b => ?_⟩, by rw [viF_o h0 (by omega)]; exact h.2.1, fun x => by rw [hE.1] at x; rw [viF_o h0 (by omega)]; exact h.2.2.1 x, by rw [viF_10 h0]; have := h.2.2.2.1; split <;> omega, fun k a b => ?_⟩
  · rw [hE.1] at b
    have hk := h.1.2.2.2.2.2 k a b
    rw [viF_o (i := 0 + 6) h0 (by omega)]
    by_cases e : k = m
    · subst e
      unfold mtW at hk ⊢
      rw [viF_j2 h0, viF_j7 h0, viF_j9 h0, viF_j11 h0, viF_j12 h0, viF_o (i := 0 + 11 + 13 * k + 1) h0 (by omega), viF_o (i := 0 + 11 + 13 * k + 3) h0 (by omega), viF_o (i := 0 + 11 + 13 * k + 4) h0 (by omega), viF_o (i := 0 + 11 + 13 * k + 5) h0 (by omega)]
      refine ⟨hk.1, by omega, hk.2.2.1, hk.2.2.2.1, ?_, by omega, by omega, by omega⟩
      split <;> omega
    · exact mt_E (fun j c d => viF_o h0 (by omega)) hk
  · rw [hE.1] at b
    have hk := h.2.2.2.2 k a b
    have h10 := h.2.2.2.1
    by_cases e : k = m
    · subst e
      have := viF_j6 (S := S) h0
      simp only [Int.zero_add] at this
      rw [this]
      split <;> omega
    · rw [viF_o h0 (by omega)]
      omega
end KP
