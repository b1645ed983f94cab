/-! ===== a house being made: a meter's and a load's objects ===== -/
set_option maxRecDepth 100000
section HX3
variable {D : va_G} {X tg : Nat → Nat} {hid : Nat} {A : Nat → Nat} {S W : Int → Int} {ml nl : Int} {nm nd : Nat} {fl ll : Nat → List Nat} {G : gM}
def A_mt (A : Nat → Nat) (nm a y z : Nat) : Nat → Nat := fun r => if r = 10 + nm then a else if r = 20 + nm then y else if r = 40 + nm then z else A r
theorem A_mt_o {nm a y z r : Nat} (h : r ≠ 10 + nm ∧ r ≠ 20 + nm ∧ r ≠ 40 + nm) : A_mt A nm a y z r = A r := by unfold A_mt; rw [if_neg h.1, if_neg h.2.1, if_neg h.2.2]
theorem hx_meter {G1 : gM} {S' W' : Int → Int} {a y z : Nat} {th : Value} (h : hsX D X tg hid A S W ml nl nm nd fl ll G) (hnm : nm < 7) (ha : G a = none) (hM : nmP X a nm th (gup G a blM) G1 y z) (hh : hid < 999)
    (hS : ∀ i, 0 ≤ i → i < 138 → i ≠ 7 → i ≠ 9 → (i < 11 + 13 * (nm : Int) ∨ 11 + 13 * (nm : Int) + 13 ≤ i) → S' i = S i) (hN : ∀ j, 1 ≤ j → j ≤ 12 → S' (11 + 13 * (nm : Int) + j) = if j = 2 then 100 else 0) (hth : th = thV A S' nm) (hpar : ∀ k : Nat, 0 < k → k ≤ nm → (S' (11 + 13 * (k : Int))).toNat < nm)
    (hW : ∀ k : Nat, k < nm → W' k = W k) (hW0 : W' nm = 0) (hml : ml ≤ nm) (hnl : nl ≤ nd) (hfl : ∀ k, k < nm → ∀ c ∈ fl k, c < nm) (hll : ∀ k, k < nm → ∀ c ∈ ll k, c < nd) :
    ∃ tg' : Nat → Nat, tgR tg tg' hid G G1 ∧ hsX D X tg' hid (A_mt A nm a y z) S' W' ml nl (nm + 1) nd (fun k => if k = nm then [] else fl k) (fun k => if k = nm then [] else ll k) G1 := by
  have hb := h.1
  obtain ⟨⟨hy, hz⟩, ⟨hya, hza, hzy⟩, hG1⟩ := id hM
  have hy0 : G y = none := (none_gup hy).2
  have hz0 : G z = none := (none_gup hz).2
  have hfr : ∀ q, q ≠ a → q ≠ y → q ≠ z → G1 q = G q := fun q q1 q2 q3 => by rw [hG1, gup_n q1, gup_n q3, gup_n q2, gup_n q1]
  have hex : ∀ q, G q ≠ none → q ≠ a ∧ q ≠ y ∧ q ≠ z := fun q hq => ⟨fun e => hq (by rw [e]; exact ha), fun e => hq (by rw [e]; exact hy0), fun e => hq (by rw [e]; exact hz0)⟩
  have hkeep : ∀ q e, G q = some e → G1 q = some e := fun q e he => by
    have := hex q (by rw [he]; exact fun z => by cases z)
    rw [hfr q this.1 this.2.1 this.2.2]; exact he
  have cy : G1 y = some (alO 0 (X 0) 0) := by rw [hG1, gup_n hya, gup_n (Ne.symm hzy), gup_s]
  have cz : G1 z = some (alO 0 (X 0) 0) := by rw [hG1, gup_n hza, gup_s]
  have ca : G1 a = some (mtO nm th y z 0 0 100 0 0 0 0 0 0 0 0 0 0) := by rw [hG1, gup_s]
  have hA : ∀ r, usX nm nd r → A_mt A nm a y z r = A r := fun r hr => A_mt_o (by rcases hr with rfl | rfl | rfl | rfl | ⟨k, hk, rfl | rfl | rfl⟩ | ⟨j, hj, rfl⟩ <;> omega)
  have tk : ∀ q, G q ≠ none → (if q = a then 100 * hid + (10 + nm) else if q = y then 100 * hid + (20 + nm) else if q = z then 100 * hid + (40 + nm) else tg q) = tg q := fun q hq => by
    have := hex q hq
    rw [if_neg this.1, if_neg this.2.1, if_neg this.2.2]
  have hsome : ∀ r, usX nm nd r → G (A r) ≠ none := fun r hr z => by obtain ⟨e, he⟩ := ux_some h hr; rw [z] at he; cases he
  have al : ∀ r t n el, usX nm nd r → alR D X tg t G (A r) n el → alR D X (fun q => if q = a then 100 * hid + (10 + nm) else if q = y then 100 * hid + (20 + nm) else if q = z then 100 * hid + (40 + nm) else tg q) t G1 (A_mt A nm a y z r) n el := fun r t n el hr hal => by
    rw [hA r hr]
    exact alR_mv hal (fun e he => hkeep _ e he) (fun q e he _ => ⟨hkeep q e he, tk q (by rw [he]; exact fun z => by cases z)⟩)
  have alE : ∀ t b, G1 b = some (alO 0 (X 0) 0) → ∀ el, alR D X (fun q => if q = a then 100 * hid + (10 + nm) else if q = y then 100 * hid + (20 + nm) else if q = z then 100 * hid + (40 + nm) else tg q) t G1 b 0 el := fun t b hb el => ⟨0, X 0, ⟨by omega, by omega⟩, hb, by omega, Or.inl ⟨rfl, rfl⟩⟩
  obtain ⟨a1, a2, a3, ⟨g, a4, a4'⟩, a5, a6, a7, a8⟩ := id h
  refine ⟨fun q => if q = a then 100 * hid + (10 + nm) else if q = y then 100 * hid + (20 + nm) else if q = z then 100 * hid + (40 + nm) else tg q, ⟨fun q hq _ => tk q hq, fun q e he _ _ => hkeep q e he, fun q hq hq' => ?_, fun q _ hq => ?_, fun q hq => by have := hex q hq; rw [hfr q this.1 this.2.1 this.2.2]; exact hq⟩, by omega, fun r hr => ?_, ?_, ⟨g, by rw [hA 1 ux_1]; exact hkeep _ _ a4, fun i b0 b5 => by rw [a4' i b0 b5, hS i (by omega) (by omega) (by omega) (by omega) (by omega)]⟩, alR_el (al 2 _ _ _ ux_2 a5) (fun i b0 b1 => ?_), alR_el (al 4 _ _ _ ux_4 a6) (fun i b0 b1 => ?_), fun k hk => ?_, fun j hj => ?_⟩
  · left
    dsimp only
    by_cases e1 : q = a
    · rw [if_pos e1]; omega
    · rw [if_neg e1]
      by_cases e2 : q = y
      · rw [if_pos e2]; omega
      · rw [if_neg e2]
        by_cases e3 : q = z
        · rw [if_pos e3]; omega
        · exact absurd (by rw [hfr q e1 e2 e3]; exact hq) hq'
  · dsimp only
    (repeat' split) <;> omega
  · dsimp only
    rcases hr with rfl | rfl | rfl | rfl | ⟨k, hk, hr⟩ | ⟨j, hj, rfl⟩
    · rw [hA 0 ux_0, tk _ (hsome _ ux_0)]; exact a2 _ ux_0
    · rw [hA 1 ux_1, tk _ (hsome _ ux_1)]; exact a2 _ ux_1
    · rw [hA 2 ux_2, tk _ (hsome _ ux_2)]; exact a2 _ ux_2
    · rw [hA 4 ux_4, tk _ (hsome _ ux_4)]; exact a2 _ ux_4
    · by_cases e : k = nm
      · subst e
        rcases hr with rfl | rfl | rfl
        · rw [show A_mt A k a y z (10 + k) = a from if_pos rfl, if_pos rfl]
        · rw [show A_mt A k a y z (20 + k) = y by unfold A_mt; rw [if_neg (by omega), if_pos rfl], if_neg hya, if_pos rfl]
        · rw [show A_mt A k a y z (40 + k) = z by unfold A_mt; rw [if_neg (by omega), if_neg (by omega), if_pos rfl], if_neg hza, if_neg hzy, if_pos rfl]
      · have hu : usX nm nd r := Or.inr (Or.inr (Or.inr (Or.inr (Or.inl ⟨k, by omega, hr⟩))))
        rw [hA r hu, tk _ (hsome _ hu)]; exact a2 _ hu
    · rw [hA _ (ux_l hj), tk _ (hsome _ (ux_l hj))]; exact a2 _ (ux_l hj)
  · rw [hA 0 ux_0, hkeep _ _ a3]
    unfold hoO
    rw [hA 1 ux_1, hA 2 ux_2, hA 4 ux_4, hS 6 (by omega) (by omega) (by omega) (by omega) (by omega), hS 10 (by omega) (by omega) (by omega) (by omega) (by omega)]
  · exact hA _ (ux_m (by omega))
  · exact hA _ (ux_l (by omega))
  · by_cases e : k = nm
    · subst e
      have ey : A_mt A k a y z (20 + k) = y := by unfold A_mt; rw [if_neg (by omega), if_pos rfl]
      have ez : A_mt A k a y z (40 + k) = z := by unfold A_mt; rw [if_neg (by omega), if_neg (by omega), if_pos rfl]
      have hthv : thV (A_mt A k a y z) S' k = thV A S' k := by
        unfold thV
        by_cases e : k = 0
        · rw [if_pos e, if_pos e]
        · have := hpar k (by omega) (by omega)
          rw [if_neg e, if_neg e, A_mt_o (by omega)]
      refine ⟨?_, ?_, ?_⟩
      · rw [show A_mt A k a y z (10 + k) = a from if_pos rfl, ca]
        unfold mtC
        rw [hthv, ← hth, ey, ez, hW0, hN 1 (by omega) (by omega), hN 2 (by omega) (by omega), hN 3 (by omega) (by omega), hN 4 (by omega) (by omega), hN 5 (by omega) (by omega), hN 6 (by omega) (by omega), hN 7 (by omega) (by omega), hN 8 (by omega) (by omega), hN 9 (by omega) (by omega), hN 10 (by omega) (by omega), hN 11 (by omega) (by omega), hN 12 (by omega) (by omega)]
        rfl
      · dsimp only
        rw [ey, if_pos rfl]
        exact alE _ _ cy _
      · dsimp only
        rw [ez, if_pos rfl]
        exact alE _ _ cz _
    · have hkn : k < nm := by omega
      obtain ⟨m1, m2, m3⟩ := a7 k hkn
      refine ⟨?_, ?_, ?_⟩
      · rw [hA _ (ux_m hkn), hkeep _ _ m1]
        congr 1
        unfold mtC
        rw [hA _ (ux_f hkn), hA _ (ux_ll hkn), hW k hkn]
        have s : ∀ j : Int, 0 ≤ j → j ≤ 12 → S' (11 + 13 * (k : Int) + j) = S (11 + 13 * (k : Int) + j) := fun j b0 b1 => hS _ (by omega) (by omega) (by omega) (by omega) (by omega)
        have s0 := s 0 (by omega) (by omega)
        rw [Int.add_zero] at s0
        have hthv : thV (A_mt A nm a y z) S' k = thV A S k := by
          unfold thV
          by_cases e : k = 0
          · rw [if_pos e, if_pos e]
          · have := hpar k (by omega) (by omega)
            rw [if_neg e, if_neg e, A_mt_o (by omega), s0]
        rw [hthv, s 1 (by omega) (by omega), s 2 (by omega) (by omega), s 3 (by omega) (by omega), s 4 (by omega) (by omega), s 5 (by omega) (by omega), s 6 (by omega) (by omega), s 7 (by omega) (by omega), s 8 (by omega) (by omega), s 9 (by omega) (by omega), s 10 (by omega) (by omega), s 11 (by omega) (by omega), s 12 (by omega) (by omega)]
      · dsimp only
        rw [if_neg e]
        refine alR_el (al _ _ _ _ (ux_f hkn) m2) (fun i b0 b1 => ?_)
        unfold lel
        have := hfl k hkn _ (gd_mem (L := fl k) (i := i.toNat) (by omega))
        exact A_mt_o (by omega)
      · dsimp only
        rw [if_neg e]
        refine alR_el (al _ _ _ _ (ux_ll hkn) m3) (fun i b0 b1 => ?_)
        unfold lel
        have := hll k hkn _ (gd_mem (L := ll k) (i := i.toNat) (by omega))
        exact A_mt_o (by omega)
  · rw [hA _ (ux_l hj), hkeep _ _ (a8 j hj), loC_E (S := S) (fun i b0 b1 => hS _ (by omega) (by omega) (by omega) (by omega) (by omega))]
/-- a load's object, made before, becomes the house's -/
def A_lo (A : Nat → Nat) (nd b : Nat) : Nat → Nat := fun r => if r = 60 + nd then b else A r
theorem A_lo_o {nd b r : Nat} (h : r ≠ 60 + nd) : A_lo A nd b r = A r := if_neg h
theorem hx_load {S' : Int → Int} {b : Nat} (h : hsX D X tg hid A S W ml nl nm nd fl ll G) (hnd : nd < 12) (hbt : tg b / 100 = 999) (hb0 : G b = some (loC S' nd)) (hh : hid < 999) (hS : ∀ i, 0 ≤ i → i < 138 → i ≠ 8 → i ≠ 9 → (i < 102 + 3 * (nd : Int) ∨ 102 + 3 * (nd : Int) + 3 ≤ i) → S' i = S i)
    (hpar : ∀ k : Nat, 0 < k → k < nm → (S (11 + 13 * (k : Int))).toNat < nm) (hml : ml ≤ nm) (hnl : nl ≤ nd) (hfl : ∀ k, k < nm → ∀ c ∈ fl k, c < nm) (hll : ∀ k, k < nm → ∀ c ∈ ll k, c < nd) :
    ∃ tg' : Nat → Nat, tgR tg tg' hid G G ∧ hsX D X tg' hid (A_lo A nd b) S' W ml nl nm (nd + 1) fl ll G := by
  have hb := h.1
  have hA : ∀ r, usX nm nd r → A_lo A nd b r = A r := fun r hr => A_lo_o (by rcases hr with rfl | rfl | rfl | rfl | ⟨k, hk, rfl | rfl | rfl⟩ | ⟨j, hj, rfl⟩ <;> omega)
  have tk : ∀ q, tg q / 100 ≠ 999 → (if q = b then 100 * hid + (60 + nd) else tg q) = tg q := fun q hq => if_neg (fun e => hq (by rw [e]; exact hbt))
  obtain ⟨a1, a2, a3, ⟨g, a4, a4'⟩, a5, a6, a7, a8⟩ := id h
  have tr : ∀ r, usX nm nd r → (if A r = b then 100 * hid + (60 + nd) else tg (A r)) = 100 * hid + r := fun r hr => by
    have h1 := a2 r hr
    have h2 := ux_lt h hr
    rw [tk _ (by omega)]; exact h1
  have al : ∀ r t n el, usX nm nd r → t < 100 → alR D X tg (100 * hid + t) G (A r) n el → alR D X (fun q => if q = b then 100 * hid + (60 + nd) else tg q) (100 * hid + t) G (A_lo A nd b r) n el := fun r t n el hr ht hal => by
    rw [hA r hr]
    exact alR_mv hal (fun e he => he) (fun q e he hq => ⟨he, tk q (by omega)⟩)
  refine ⟨fun q => if q = b then 100 * hid + (60 + nd) else tg q, ⟨fun q _ hq => tk q hq, fun q e he _ _ => he, fun q hq hq' => absurd hq hq', fun q _ hq => ?_, fun q hq => hq⟩, by omega, fun r hr => ?_, ?_, ⟨g, by rw [hA 1 ux_1]; exact a4, fun i b0 b5 => by rw [a4' i b0 b5, hS i (by omega) (by omega) (by omega) (by omega) (by omega)]⟩, alR_el (al 2 3 _ _ ux_2 (by omega) a5) (fun i b0 b1 => hA _ (ux_m (by omega))), alR_el (al 4 5 _ _ ux_4 (by omega) a6) (fun i b0 b1 => hA _ (ux_l (by omega))), fun k hk => ?_, fun j hj => ?_⟩
  · dsimp only
    split <;> omega
  · dsimp only
    rcases hr with rfl | rfl | rfl | rfl | ⟨k, hk, hr⟩ | ⟨j, hj, rfl⟩
    · rw [hA 0 ux_0]; exact tr _ ux_0
    · rw [hA 1 ux_1]; exact tr _ ux_1
    · rw [hA 2 ux_2]; exact tr _ ux_2
    · rw [hA 4 ux_4]; exact tr _ ux_4
    · have hu : usX nm nd r := Or.inr (Or.inr (Or.inr (Or.inr (Or.inl ⟨k, hk, hr⟩))))
      rw [hA r hu]; exact tr _ hu
    · by_cases e : j = nd
      · subst e
        rw [show A_lo A j b (60 + j) = b from if_pos rfl, if_pos rfl]
      · rw [hA _ (ux_l (by omega))]; exact tr _ (ux_l (by omega))
  · rw [hA 0 ux_0, a3]
    unfold hoO
    rw [hA 1 ux_1, hA 2 ux_2, hA 4 ux_4, hS 6 (by omega) (by omega) (by omega) (by omega) (by omega), hS 10 (by omega) (by omega) (by omega) (by omega) (by omega)]
  · obtain ⟨m1, m2, m3⟩ := a7 k hk
    refine ⟨?_, ?_, ?_⟩
    · rw [hA _ (ux_m hk), m1]
      congr 1
      unfold mtC
      rw [hA _ (ux_f hk), hA _ (ux_ll hk)]
      have s : ∀ j : Int, 0 ≤ j → j ≤ 12 → S' (11 + 13 * (k : Int) + j) = S (11 + 13 * (k : Int) + j) := fun j b0 b1 => hS _ (by omega) (by omega) (by omega) (by omega) (by omega)
      have s0 := s 0 (by omega) (by omega)
      rw [Int.add_zero] at s0
      have hthv : thV (A_lo A nd b) S' k = thV A S k := by
        unfold thV
        by_cases e : k = 0
        · rw [if_pos e, if_pos e]
        · have := hpar k (by omega) hk
          rw [if_neg e, if_neg e, s0, A_lo_o (by omega)]
      rw [hthv, s 1 (by omega) (by omega), s 2 (by omega) (by omega), s 3 (by omega) (by omega), s 4 (by omega) (by omega), s 5 (by omega) (by omega), s 6 (by omega) (by omega), s 7 (by omega) (by omega), s 8 (by omega) (by omega), s 9 (by omega) (by omega), s 10 (by omega) (by omega), s 11 (by omega) (by omega), s 12 (by omega) (by omega)]
    · rw [Nat.add_assoc] at m2 ⊢
      refine alR_el (al _ _ _ _ (ux_f hk) (by omega) m2) (fun i b0 b1 => ?_)
      unfold lel
      have := hfl k hk _ (gd_mem (L := fl k) (i := i.toNat) (by omega))
      exact A_lo_o (by omega)
    · rw [Nat.add_assoc] at m3 ⊢
      refine alR_el (al _ _ _ _ (ux_ll hk) (by omega) m3) (fun i b0 b1 => ?_)
      unfold lel
      have := hll k hk _ (gd_mem (L := ll k) (i := i.toNat) (by omega))
      exact A_lo_o (by omega)
  · by_cases e : j = nd
    · subst e
      rw [show A_lo A j b (60 + j) = b from if_pos rfl]
      exact hb0
    · rw [hA _ (ux_l (by omega)), a8 j (by omega), loC_E (S := S) (fun i b0 b1 => hS _ (by omega) (by omega) (by omega) (by omega) (by omega))]
end HX3
