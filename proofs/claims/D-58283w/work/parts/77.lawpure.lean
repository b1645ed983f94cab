/-! ===== THE LAW: what changes keep ===== -/
set_option maxRecDepth 100000
section LAWP
variable {S S' P P' L L' V V' Pd Pd' : Int → Int} {N N' kn kn' ln : Int}
theorem blS_E : ∀ n : Nat, (∀ k : Nat, k < n → S' (11 + 13 * (k : Int) + 8) = S (11 + 13 * (k : Int) + 8)) → blS S' n = blS S n
  | 0, _ => rfl
  | n + 1, h => by
    simp only [blS]
    rw [blS_E n (fun k hk => h k (by omega)), h n (by omega)]
theorem bl_E (h7 : S' 7 = S 7) (h9 : S' 9 = S 9) (h : ∀ k : Nat, (k : Int) < S 7 → S' (11 + 13 * (k : Int) + 8) = S (11 + 13 * (k : Int) + 8)) (hB : blW S) : blW S' := by
  unfold blW at hB ⊢
  rw [h7, h9, hB, blS_E _ (fun k hk => h k (by omega))]
theorem bl_rq (h7 : 0 ≤ S 7 ∧ S 7 ≤ 7) (hE : rqE S S') (hB : blW S) : blW S' :=
  bl_E (hE 7 (by omega) (by omega)) (hE 9 (by omega) (by omega)) (fun k hk => hE _ (by omega) (by omega)) hB
theorem bl_set {i v : Int} (hi : wnS i v = 0) (hB : blW S) : blW (fu S i v) := by
  have h5 : 0 ≤ i ∧ i ≤ 5 := by
    unfold wnS at hi
    split at hi <;> omega
  exact bl_E (fu_n (by omega)) (fu_n (by omega)) (fun k hk => fu_n (by omega)) hB
theorem bl_co (h7 : 0 ≤ S 7 ∧ S 7 ≤ 7) {t : Int} (hB : blW S) : blW (coF S t) := by
  unfold blW at hB ⊢
  rw [coF_7 h7.1, coF_o h7.1 (i := 9) (Or.inl (by omega)) ⟨by omega, by omega⟩, hB, show (S 7 + 1).toNat = (S 7).toNat + 1 by omega]
  simp only [blS]
  have e8 := coF_n (S := S) (t := t) h7.1 (j := 8) (by omega) (by omega)
  rw [if_neg (by omega), if_neg (by omega), if_neg (by omega)] at e8
  rw [blS_E (S := S) (S' := coF S t) _ (fun k hk => coF_o h7.1 (Or.inl (by omega)) ⟨by omega, by omega⟩), show (11 : Int) + 13 * ((S 7).toNat : Int) + 8 = 0 + 11 + 13 * S 7 + 8 by omega, e8]
  omega
theorem bl_lo (h7 : 0 ≤ S 7 ∧ S 7 ≤ 7) (h8 : 0 ≤ S 8) {m w : Int} (hB : blW S) : blW (loF S m w) :=
  bl_E (loF_o h8 (Or.inl (by omega)) (by omega)) (loF_o h8 (Or.inl (by omega)) (by omega)) (fun k hk => loF_o h8 (Or.inl (by omega)) (by omega)) hB
theorem bl_tu (h7 : 0 ≤ S 7 ∧ S 7 ≤ 7) {j : Int} (h0 : 0 ≤ j) (hB : blW S) : blW (tuF S j) :=
  bl_E (tuF_o (by omega)) (tuF_o (by omega)) (fun k hk => tuF_o (by omega)) hB
theorem bl_ta {m : Int} (h0 : 0 ≤ m) (hB : blW S) : blW (taF S m) :=
  bl_E (fu_n (by omega)) (fu_n (by omega)) (fun k hk => fu_n (by omega)) hB
theorem bl_pa {T : Int} (h : pasW S T) {n : Nat} (hB : blW S) : blW (paF S n) := by
  have h7 := h.1.1
  exact bl_E (pa_o h ⟨by omega, fun m a b => by omega⟩ n) (pa_o h ⟨by omega, fun m a b => by omega⟩ n) (fun k hk => pa_o h ⟨by omega, fun m a b => by omega⟩ n) hB
theorem blS_vi {m : Int} (h0 : 0 ≤ m) : ∀ n : Nat, blS (viF S m) n = blS S n + (if m < n then biF S m else 0)
  | 0 => by
    simp only [blS]
    rw [if_neg (by omega)]
    rfl
  | n + 1 => by
    simp only [blS]
    rw [blS_vi h0 n]
    by_cases e : (n : Int) = m
    · have e8 := viF_j8 (S := S) h0
      rw [← e] at e8 ⊢
      rw [show (0 : Int) + 11 + 13 * (n : Int) + 8 = 11 + 13 * (n : Int) + 8 by omega] at e8
      rw [e8, if_neg (by omega), if_pos (by omega)]
      omega
    · rw [viF_o h0 (i := 11 + 13 * (n : Int) + 8) (by omega)]
      by_cases c : m < n
      · rw [if_pos c, if_pos (by omega)]; omega
      · rw [if_neg c, if_neg (by omega)]; omega
theorem bl_vi (h7 : 0 ≤ S 7 ∧ S 7 ≤ 7) {m : Int} (h0 : 0 ≤ m) (hm : m < S 7) (hB : blW S) : blW (viF S m) := by
  unfold blW at hB ⊢
  rw [viF_9 h0, viF_o h0 (i := 7) (by omega), blS_vi h0, if_pos (by omega), hB]
theorem bl_ds (h : rowW S N) {q : Int} (hw : wyF Pd ln S q = 0) (hB : blW S) : blW (dsF Pd ln S q) := by
  have h7 := rw_7 h
  have h8 := rw_8 h
  unfold wyF at hw
  unfold dsF
  by_cases c1 : cd Pd ln q = 109
  · rw [if_pos c1] at hw ⊢; exact bl_co h7 hB
  rw [if_neg c1] at hw ⊢
  by_cases c2 : cd Pd ln q = 108
  · rw [if_pos c2] at hw ⊢; exact bl_lo h7 h8.1 hB
  rw [if_neg c2] at hw ⊢
  by_cases c3 : cd Pd ln q = 115
  · rw [if_pos c3] at hw ⊢
    exact bl_tu h7 (by unfold wnO at hw; split at hw <;> omega) hB
  rw [if_neg c3] at hw ⊢
  by_cases c4 : cd Pd ln q = 116
  · rw [if_pos c4] at hw ⊢; exact bl_pa h.1 hB
  rw [if_neg c4] at hw ⊢
  by_cases c5 : cd Pd ln q = 98
  · rw [if_pos c5] at hw ⊢
    exact bl_ta (by unfold wnT at hw; (repeat' split at hw) <;> omega) hB
  rw [if_neg c5] at hw ⊢
  have hv : 0 ≤ dg Pd ln (q + 1) ∧ dg Pd ln (q + 1) < S 7 := by unfold wnI at hw; split at hw <;> omega
  exact bl_vi h7 hv.1 hv.2 hB
/-- a row, its bounds, its sums -/
def rW (S : Int → Int) (N : Int) : Prop := rowW S N ∧ blW S
theorem rW_mono (hN : N ≤ N') (h : rW S N) : rW S N' := ⟨rowW_mono hN h.1, h.2⟩
theorem rW_E (hE : rqE S S') (h : rW S N) : rW S' N := ⟨rowW_E hE h.1, bl_rq (rw_7 h.1) hE h.2⟩
theorem ca_keep {Pd : Int → Int} {ln : Int} : ∀ (k n : Nat) (S : Int → Int) (q N : Int), k ≤ n → 0 ≤ q → (faF Pd ln n q = -6 ∨ ln ≤ q) → rW S N → rW (caF Pd ln k S q).1 (N + k)
  | 0, n, S, q, N, _, _, _, h => by
    simp only [caF]
    exact rW_mono (by omega) h
  | k + 1, n, S, q, N, hk, h0, hf, h => by
    rw [caF_e]
    by_cases c : q < ln ∧ wyF Pd ln S q = 0
    · rw [if_pos c]
      obtain ⟨n', rfl⟩ : ∃ n', n = n' + 1 := ⟨n - 1, by omega⟩
      have hf' : faF Pd ln (n' + 1) q = -6 := by
        rcases hf with z | z
        · exact z
        · omega
      obtain ⟨g1, g2⟩ := fa_step hf' h0
      have := ca_keep (Pd := Pd) (ln := ln) k n' (dsF Pd ln S q) (oeF Pd ln q + 1) (N + 1) (by omega) (by omega) (by
        rcases g2 with z | ⟨-, z⟩
        · exact Or.inr (by omega)
        · exact Or.inl z) ⟨rowW_ds h.1 h0 c.2, bl_ds h.1 c.2 h.2⟩
      exact rW_mono (by push_cast; omega) this
    · rw [if_neg c]
      exact rW_mono (by omega) h
/-! ===== the pad ===== -/
theorem wr_in : ∀ (l : List Int) (Pd : Int → Int) (ln : Int), 0 ≤ ln → (∀ x ∈ l, 33 ≤ x ∧ x ≤ 126) → (∀ i, 0 ≤ i → i < ln → 33 ≤ Pd i ∧ Pd i ≤ 126) → ∀ i, 0 ≤ i → i < ln + l.length → 33 ≤ wr Pd ln l i ∧ wr Pd ln l i ≤ 126
  | [], Pd, ln, _, _, hp, i, h0, h1 => hp i h0 (by simpa using h1)
  | c :: cs, Pd, ln, hl, hx, hp, i, h0, h1 => by
    simp only [wr]
    refine wr_in cs (fu Pd ln c) (ln + 1) (by omega) (fun x hx' => hx x (List.mem_cons_of_mem _ hx')) (fun j a b => ?_) i h0 (by simp only [List.length_cons] at h1; omega)
    by_cases e : j = ln
    · rw [e, fu_s]; exact hx c List.mem_cons_self
    · rw [fu_n e]; exact hp j a (by omega)
theorem decK_in {v : Int} : ∀ k, ∀ x ∈ decK v k, 33 ≤ x ∧ x ≤ 126
  | 0, x, h => by cases h
  | k + 1, x, h => by
    simp only [decK, List.mem_cons] at h
    rcases h with rfl | h
    · omega
    · exact decK_in k x h
theorem wrL_in {m : Int} : ∀ x ∈ wrL S m, 33 ≤ x ∧ x ≤ 126 := by
  intro x hx
  unfold wrL at hx
  simp only [List.mem_append, List.mem_cons] at hx
  rcases hx with (((rfl | h) | (rfl | h)) | (rfl | h)) | h
  · omega
  · exact decK_in _ x h
  · omega
  · exact decK_in _ x h
  · omega
  · exact decK_in _ x h
  · split at h
    · simp only [List.mem_cons, List.not_mem_nil, or_false] at h; omega
    · cases h
theorem wrL_len {m : Int} : (wrL S m).length ≤ 40 := by
  unfold wrL
  have a := nd_bd (v := S (11 + 13 * m + 3))
  have b := nd_bd (v := S (11 + 13 * m + 4))
  have c := nd_bd (v := S (11 + 13 * m + 6))
  simp only [List.length_append, List.length_cons, decL_len]
  split <;> simp only [List.length_cons, List.length_nil] <;> omega
theorem pad_write {m : Int} : padW (wr Pd 0 (wrL S m)) ((wrL S m).length : Int) := by
  have hl := wrL_len (S := S) (m := m)
  exact ⟨by omega, fun i a b => wr_in _ Pd 0 (by omega) wrL_in (fun j c d => by omega) i a (by omega)⟩
theorem pE_st {v : Int64} {j : Nat} (h : pE v (j + 1) ≠ 0) : ∀ k : Nat, pE v (j + 1 + k) ≠ 0
  | 0 => h
  | k + 1 => by
    have := pE_st h k
    rw [show j + 1 + (k + 1) = (j + 1 + k) + 1 by omega]
    simp only [pE]
    rw [if_pos (Or.inl this)]
    omega
theorem pM_st {v : Int64} {j : Nat} (h : pE v (j + 1) ≠ 0) : ∀ k : Nat, pM v (j + k) ≤ j
  | 0 => pM_r.2
  | k + 1 => by
    have := pM_st h k
    rw [show j + (k + 1) = (j + k) + 1 by omega]
    simp only [pM]
    rw [if_neg (by rw [show j + k + 1 = j + 1 + k by omega]; exact pE_st h k)]
    omega
theorem pR_dn {v : Int64} {n : Nat} (h : pR v n ≠ 0) : ∀ j, j ≤ n → pR v j ≠ 0 := by
  induction n with
  | zero => intro j hj; rw [show j = 0 by omega]; exact h
  | succ n ih =>
    intro j hj
    by_cases e : j = n + 1
    · rw [e]; exact h
    · exact ih (fun z => h (by simp only [pR]; rw [if_pos z])) j (by omega)
theorem pM_in {v : Int64} (h : pR v 8 ≠ 0) {j : Nat} (h8 : j < 8) (hj : (j : Int) < pM v 8) : 33 ≤ byF v j ∧ byF v j ≤ 126 := by
  have e : pE v (j + 1) = 0 := by
    rcases Int.decEq (pE v (j + 1)) 0 with z | z
    · have := pM_st z (8 - j)
      rw [show j + (8 - j) = 8 by omega] at this
      omega
    · exact z
  have r1 := pR_dn h (j + 1) (by omega)
  have r0 := pR_dn h j (by omega)
  simp only [pR] at r1
  rw [if_neg r0, if_neg (by simpa [pE] using e)] at r1
  by_cases c : 33 ≤ byF v j ∧ byF v j ≤ 126
  · exact c
  · rw [if_neg c] at r1; exact absurd rfl r1
theorem puL_in {v : Int64} : ∀ n : Nat, (∀ j, j < n → 33 ≤ byF v j ∧ byF v j ≤ 126) → ∀ x ∈ puL v n, 33 ≤ x ∧ x ≤ 126
  | 0, _, x, h => by cases h
  | n + 1, hb, x, h => by
    simp only [puL, List.mem_cons] at h
    rcases h with rfl | h
    · exact hb n (by omega)
    · exact puL_in n (fun j hj => hb j (by omega)) x h
theorem puL_len {v : Int64} : ∀ n : Nat, (puL v n).length = n
  | 0 => rfl
  | n + 1 => by simp only [puL, List.length_cons, puL_len n]
theorem pad_put {v : Int64} (hp : padW Pd ln) (h : 0 ≤ puF v ln) : padW (wr Pd ln (puL v (pM v 8).toNat)) (ln + pM v 8) := by
  have hr : pR v 8 ≠ 0 ∧ pM v 8 ≠ 0 ∧ ln + pM v 8 ≤ 80 := by
    unfold puF at h
    by_cases c : pR v 8 = 0 ∨ pM v 8 = 0
    · rw [if_pos c] at h; omega
    rw [if_neg c] at h
    by_cases c2 : 80 < ln + pM v 8
    · rw [if_pos c2] at h; omega
    exact ⟨fun z => c (Or.inl z), fun z => c (Or.inr z), by omega⟩
  have hm := pM_r (v := v) (k := 8)
  have hl := hp.1
  refine ⟨by omega, fun i a b => wr_in _ Pd ln (by omega) (puL_in _ fun j hj => pM_in hr.1 (by omega) (by omega)) hp.2 i a ?_⟩
  rw [puL_len]
  omega
/-! ===== the whole state: the row, the past, what is saved, the pad ===== -/
def lwS (S P : Int → Int) (kn : Int) (L V Pd : Int → Int) (ln N : Int) : Prop :=
  rW S N ∧ (0 ≤ kn ∧ kn ≤ 6) ∧ (∀ k, 0 ≤ k → k < kn → rW (fun j => P (138 * k + j)) N) ∧ (∀ k, 0 ≤ k → k ≤ 1 → V k = 0 ∨ V k = 1) ∧ (∀ k, 0 ≤ k → k ≤ 1 → V k = 1 → rW (fun j => L (138 * k + j)) N) ∧ padW Pd ln
theorem ls_mono (hN : N ≤ N') (h : lwS S P kn L V Pd ln N) : lwS S P kn L V Pd ln N' := by
  obtain ⟨h1, h2, h3, h4, h5, h6⟩ := h
  exact ⟨rW_mono hN h1, h2, fun k a b => rW_mono hN (h3 k a b), h4, fun k a b c => rW_mono hN (h5 k a b c), h6⟩
theorem ls_row (hE : rqE S S') (h : lwS S P kn L V Pd ln N) : lwS S' P kn L V Pd ln N := ⟨rW_E hE h.1, h.2⟩
theorem ls_pad (h : lwS S P kn L V Pd ln N) {Pd' : Int → Int} {ln' : Int} (hp : padW Pd' ln') : lwS S P kn L V Pd' ln' N := ⟨h.1, h.2.1, h.2.2.1, h.2.2.2.1, h.2.2.2.2.1, hp⟩
theorem ls_rem (h : lwS S P kn L V Pd ln N) (hr : remR S P kn P' kn') (hS : rW S' N') (hN : N ≤ N') : lwS S' P' kn' L V Pd ln N' := by
  obtain ⟨h1, h2, h3, h4, h5, h6⟩ := ls_mono hN h
  obtain ⟨r1, r2, r3, r4⟩ := hr
  have hk : (kn = 6 ∧ kn' = 6) ∨ (kn ≠ 6 ∧ kn' = kn + 1) := by
    by_cases e : kn = 6
    · rw [if_pos e] at r1; exact Or.inl ⟨e, r1⟩
    · rw [if_neg e] at r1; exact Or.inr ⟨e, r1⟩
  refine ⟨hS, by omega, fun k a b => ?_, h4, h5, h6⟩
  by_cases e : k = kn' - 1
  · subst e
    exact rW_E (fun i c d => r2 i c d) h1
  · rcases hk with ⟨k6, k6'⟩ | ⟨k6, k6'⟩
    · refine rW_E (S := fun j => P (138 * (k + 1) + j)) (fun j c d => ?_) (h3 (k + 1) (by omega) (by omega))
      show P' (138 * k + j) = P (138 * (k + 1) + j)
      rw [r3 k6 (138 * k + j) (by omega) (by omega)]
      congr 1
      omega
    · refine rW_E (S := fun j => P (138 * k + j)) (fun j c d => ?_) (h3 k a (by omega))
      exact r4 k6 (138 * k + j) (by omega) (by omega)
theorem ls_sav {i : Int} (hi : 0 ≤ i ∧ i ≤ 1) (h : lwS S P kn L V Pd ln N) (h1 : ∀ j, 0 ≤ j → j < 138 → L' (138 * i + j) = S j) (h2 : ∀ j, (j < 138 * i ∨ 138 * i + 138 ≤ j) → L' j = L j) : lwS S P kn L' (fu V i 1) Pd ln N := by
  obtain ⟨a1, a2, a3, a4, a5, a6⟩ := h
  refine ⟨a1, a2, a3, fun k a b => ?_, fun k a b c => ?_, a6⟩
  · by_cases e : k = i
    · rw [e, fu_s]; exact Or.inr rfl
    · rw [fu_n e]; exact a4 k a b
  · by_cases e : k = i
    · subst e
      exact rW_E (fun j c d => h1 j c d) a1
    · rw [fu_n e] at c
      exact rW_E (S := fun j => L (138 * k + j)) (fun j d f => h2 (138 * k + j) (by omega)) (a5 k a b c)
end LAWP
