/-! ===== A HOUSE IN THE HEAP ===== -/
set_option maxRecDepth 100000
def chP (S : Int → Int) (k : Int) (j : Nat) : Bool := decide (0 < j) && decide (S (11 + 13 * (j : Int)) = k)
/-- the meters fed by k -/
def chL (S : Int → Int) (k : Int) : List Nat := (List.range (S 7).toNat).filter (chP S k)
/-- the loads of k -/
def lsL (S : Int → Int) (k : Int) : List Nat := (List.range (S 8).toNat).filter (fun j : Nat => decide (S (102 + 3 * (j : Int)) = k))
def lel (A : Nat → Nat) (base : Nat) (L : List Nat) : Int → Nat := fun i => A (base + L.getD i.toNat 0)
/-- a list in the heap: its array is its own, tagged t, or the empty one -/
def alR (D : va_G) (X : Nat → Nat) (tg : Nat → Nat) (t : Nat) (G : gM) (a : Nat) (n : Int) (el : Int → Nat) : Prop :=
  ∃ (mc : Int) (ar : Nat), rI mc ∧ G a = some (alO mc ar n) ∧ (0 ≤ n ∧ n ≤ 1000) ∧ ((ar = X 0 ∧ n = 0) ∨ (tg ar = t ∧ ∃ (cap : Nat) (f : Int → Option Nat), G ar = some (qA D cap f) ∧ elF f cap n el ∧ n ≤ cap ∧ cap ≤ 1000 ∧ 0 < cap))
theorem alR_P {D : va_G} {X : Nat → Nat} {tg : Nat → Nat} {t : Nat} {G : gM} {a : Nat} {n : Int} {el : Int → Nat} (h : alR D X tg t G a n el) : ∃ (mc : Int) (ar : Nat), rI mc ∧ G a = some (alO mc ar n) ∧ alP D X G ar n el ∧ (ar = X 0 ∨ tg ar = t) := by
  obtain ⟨mc, ar, h1, h2, h3, h4 | ⟨h4, h5⟩⟩ := h
  · exact ⟨mc, ar, h1, h2, ⟨h3, Or.inl h4⟩, Or.inl h4.1⟩
  · exact ⟨mc, ar, h1, h2, ⟨h3, Or.inr h5⟩, Or.inr h4⟩
theorem alR_mv {D : va_G} {X : Nat → Nat} {tg tg' : Nat → Nat} {t : Nat} {G G' : gM} {a : Nat} {n : Int} {el : Int → Nat} (h : alR D X tg t G a n el) (ha : ∀ e, G a = some e → G' a = some e) (hr : ∀ q e, G q = some e → tg q = t → G' q = some e ∧ tg' q = tg q) : alR D X tg' t G' a n el := by
  obtain ⟨mc, ar, h1, h2, h3, h4 | ⟨h4, cap, f, h5, h6⟩⟩ := h
  · exact ⟨mc, ar, h1, ha _ h2, h3, Or.inl h4⟩
  · exact ⟨mc, ar, h1, ha _ h2, h3, Or.inr ⟨by rw [(hr ar _ h5 h4).2]; exact h4, cap, f, (hr ar _ h5 h4).1, h6⟩⟩
theorem alR_el {D : va_G} {X : Nat → Nat} {tg : Nat → Nat} {t : Nat} {G : gM} {a : Nat} {n : Int} {el el' : Int → Nat} (h : alR D X tg t G a n el) (he : ∀ i, 0 ≤ i → i < n → el' i = el i) : alR D X tg t G a n el' := by
  obtain ⟨mc, ar, h1, h2, h3, h4 | ⟨h4, cap, f, h5, h6, h7⟩⟩ := h
  · exact ⟨mc, ar, h1, h2, h3, Or.inl h4⟩
  · refine ⟨mc, ar, h1, h2, h3, Or.inr ⟨h4, cap, f, h5, fun i a b => ?_, h7⟩⟩
    rw [h6 i a b]
    split
    · rename_i hi; rw [he i a hi]
    · rfl
abbrev hoO (A : Nat → Nat) (S : Int → Int) : va_E := oE 1 [.ref (A 1), .ref (A 2), .ref (A 4), .int (iI (S 6)), .int (iI (S 10))]
def thV (A : Nat → Nat) (S : Int → Int) (k : Nat) : Value := if k = 0 then .null else .ref (A (10 + (S (11 + 13 * (k : Int))).toNat))
abbrev mtC (A : Nat → Nat) (S W : Int → Int) (k : Nat) : va_E :=
  mtO k (thV A S k) (A (20 + k)) (A (40 + k)) (W k) (S (11 + 13 * (k : Int) + 1)) (S (11 + 13 * (k : Int) + 2)) (S (11 + 13 * (k : Int) + 9)) (S (11 + 13 * (k : Int) + 3)) (S (11 + 13 * (k : Int) + 4)) (S (11 + 13 * (k : Int) + 11)) (S (11 + 13 * (k : Int) + 12)) (S (11 + 13 * (k : Int) + 8)) (S (11 + 13 * (k : Int) + 10)) (S (11 + 13 * (k : Int) + 6)) (S (11 + 13 * (k : Int) + 7)) (S (11 + 13 * (k : Int) + 5))
abbrev loC (S : Int → Int) (j : Nat) : va_E := loO (S (102 + 3 * (j : Int) + 1)) (S (102 + 3 * (j : Int))) (S (102 + 3 * (j : Int) + 2))
/-- the roles that are there -/
def usd (S : Int → Int) (r : Nat) : Prop := r = 0 ∨ r = 1 ∨ r = 2 ∨ r = 4 ∨ (∃ k : Nat, (k : Int) < S 7 ∧ (r = 10 + k ∨ r = 20 + k ∨ r = 40 + k)) ∨ ∃ j : Nat, (j : Int) < S 8 ∧ r = 60 + j
/-- a meter with its two lists -/
def mtR (D : va_G) (X : Nat → Nat) (tg : Nat → Nat) (hid : Nat) (A : Nat → Nat) (S W : Int → Int) (G : gM) (k : Nat) : Prop :=
  G (A (10 + k)) = some (mtC A S W k) ∧ alR D X tg (100 * hid + 30 + k) G (A (20 + k)) (chL S k).length (lel A 10 (chL S k)) ∧ alR D X tg (100 * hid + 50 + k) G (A (40 + k)) (lsL S k).length (lel A 60 (lsL S k))
/-- the house hid at A is the row S, its laid powers are W -/
def hsR (D : va_G) (X : Nat → Nat) (tg : Nat → Nat) (hid : Nat) (A : Nat → Nat) (S W : Int → Int) (G : gM) : Prop :=
  ((0 ≤ S 7 ∧ S 7 ≤ 7) ∧ 0 ≤ S 8 ∧ S 8 ≤ 12) ∧ (∀ r, usd S r → tg (A r) = 100 * hid + r) ∧ G (A 0) = some (hoO A S) ∧ (∃ g : Int → Int, G (A 1) = some (iA D 6 g) ∧ ∀ i, 0 ≤ i → i ≤ 5 → g i = S i) ∧
  alR D X tg (100 * hid + 3) G (A 2) (S 7) (fun i => A (10 + i.toNat)) ∧ alR D X tg (100 * hid + 5) G (A 4) (S 8) (fun i => A (60 + i.toNat)) ∧
  (∀ k : Nat, (k : Int) < S 7 → mtR D X tg hid A S W G k) ∧ ∀ j : Nat, (j : Int) < S 8 → G (A (60 + j)) = some (loC S j)
section HS
variable {D : va_G} {X tg : Nat → Nat} {hid : Nat} {A : Nat → Nat} {S W : Int → Int} {G : gM}
theorem us_m {k : Nat} (h : (k : Int) < S 7) : usd S (10 + k) := Or.inr (Or.inr (Or.inr (Or.inr (Or.inl ⟨k, h, Or.inl rfl⟩))))
theorem us_f {k : Nat} (h : (k : Int) < S 7) : usd S (20 + k) := Or.inr (Or.inr (Or.inr (Or.inr (Or.inl ⟨k, h, Or.inr (Or.inl rfl)⟩))))
theorem us_ll {k : Nat} (h : (k : Int) < S 7) : usd S (40 + k) := Or.inr (Or.inr (Or.inr (Or.inr (Or.inl ⟨k, h, Or.inr (Or.inr rfl)⟩))))
theorem us_l {j : Nat} (h : (j : Int) < S 8) : usd S (60 + j) := Or.inr (Or.inr (Or.inr (Or.inr (Or.inr ⟨j, h, rfl⟩))))
theorem us_0 : usd S 0 := Or.inl rfl
theorem us_1 : usd S 1 := Or.inr (Or.inl rfl)
theorem us_2 : usd S 2 := Or.inr (Or.inr (Or.inl rfl))
theorem us_4 : usd S 4 := Or.inr (Or.inr (Or.inr (Or.inl rfl)))
theorem us_lt {r : Nat} (h : hsR D X tg hid A S W G) (hr : usd S r) : r < 100 := by
  have := h.1
  rcases hr with rfl | rfl | rfl | rfl | ⟨k, hk, rfl | rfl | rfl⟩ | ⟨j, hj, rfl⟩ <;> omega
theorem hs_ne {r r' : Nat} (h : hsR D X tg hid A S W G) (hr : usd S r) (hr' : usd S r') (hne : r ≠ r') : A r ≠ A r' := fun z => by
  have a := h.2.1 r hr
  have b := h.2.1 r' hr'
  rw [z, b] at a
  omega
/-- the cell of every role is there -/
theorem us_some {r : Nat} (h : hsR D X tg hid A S W G) (hr : usd S r) : ∃ e, G (A r) = some e := by
  obtain ⟨h1, h2, h3, ⟨g, h4, -⟩, ⟨_, _, -, h5, -⟩, ⟨_, _, -, h6, -⟩, h7, h8⟩ := h
  rcases hr with rfl | rfl | rfl | rfl | ⟨k, hk, rfl | rfl | rfl⟩ | ⟨j, hj, rfl⟩
  · exact ⟨_, h3⟩
  · exact ⟨_, h4⟩
  · exact ⟨_, h5⟩
  · exact ⟨_, h6⟩
  · exact ⟨_, (h7 k hk).1⟩
  · obtain ⟨-, ⟨_, _, -, h, -⟩, -⟩ := h7 k hk; exact ⟨_, h⟩
  · obtain ⟨-, -, ⟨_, _, -, h, -⟩⟩ := h7 k hk; exact ⟨_, h⟩
  · exact ⟨_, h8 j hj⟩
/-- a house is where its cells are -/
theorem hs_mv {tg' : Nat → Nat} {G' : gM} (h : hsR D X tg hid A S W G) (hm : ∀ q e, G q = some e → tg q / 100 = hid → G' q = some e ∧ tg' q = tg q) : hsR D X tg' hid A S W G' := by
  have key : ∀ r, usd S r → ∀ e, G (A r) = some e → G' (A r) = some e ∧ tg' (A r) = tg (A r) := fun r hr e he => hm _ e he (by rw [h.2.1 r hr]; have := us_lt h hr; omega)
  have hb := h.1
  have hal : ∀ {r t : Nat} {n : Int} {el : Int → Nat}, usd S r → t < 100 → alR D X tg (100 * hid + t) G (A r) n el → alR D X tg' (100 * hid + t) G' (A r) n el := fun hr ht hh => alR_mv hh (fun e he => (key _ hr e he).1) (fun q e he ht2 => hm q e he (by rw [ht2]; omega))
  obtain ⟨h1, h2, h3, ⟨g, h4, h4'⟩, h5, h6, h7, h8⟩ := id h
  refine ⟨h1, fun r hr => ?_, (key 0 us_0 _ h3).1, ⟨g, (key 1 us_1 _ h4).1, h4'⟩, hal us_2 (by omega) h5, hal us_4 (by omega) h6, fun k hk => ?_, fun j hj => (key _ (us_l hj) _ (h8 j hj)).1⟩
  · obtain ⟨e, he⟩ := us_some h hr
    rw [(key r hr e he).2]
    exact h2 r hr
  · obtain ⟨m1, m2, m3⟩ := h7 k hk
    refine ⟨(key _ (us_m hk) _ m1).1, ?_, ?_⟩
    · rw [Nat.add_assoc] at m2 ⊢
      exact hal (us_f hk) (by omega) m2
    · rw [Nat.add_assoc] at m3 ⊢
      exact hal (us_ll hk) (by omega) m3
/-- the same structure: the tree, the loads' meters -/
def strS (S S' : Int → Int) : Prop := S' 7 = S 7 ∧ S' 8 = S 8 ∧ (∀ k : Nat, (k : Int) < S 7 → S' (11 + 13 * (k : Int)) = S (11 + 13 * (k : Int))) ∧ ∀ j : Nat, (j : Int) < S 8 → S' (102 + 3 * (j : Int)) = S (102 + 3 * (j : Int))
theorem ch_E {S' : Int → Int} (h : strS S S') (k : Int) : chL S' k = chL S k := by
  unfold chL
  rw [h.1]
  apply List.filter_congr
  intro j hj
  have := List.mem_range.mp hj
  unfold chP
  rw [h.2.2.1 j (by omega)]
theorem ls_E {S' : Int → Int} (h : strS S S') (k : Int) : lsL S' k = lsL S k := by
  unfold lsL
  rw [h.2.1]
  apply List.filter_congr
  intro j hj
  have := List.mem_range.mp hj
  rw [h.2.2.2 j (by omega)]
theorem usd_E {S' : Int → Int} (h : strS S S') {r : Nat} : usd S' r ↔ usd S r := by
  unfold usd
  rw [h.1, h.2.1]
/-- the same structure, other numbers -/
theorem hs_gen {S' W' : Int → Int} {G' : gM} (h : hsR D X tg hid A S W G) (hs : strS S S') (hl : ∀ q e r, G q = some e → tg q = 100 * hid + r → ((2 ≤ r ∧ r ≤ 5) ∨ (20 ≤ r ∧ r < 60)) → G' q = some e)
    (c0 : G' (A 0) = some (hoO A S')) (c1 : ∃ g : Int → Int, G' (A 1) = some (iA D 6 g) ∧ ∀ i, 0 ≤ i → i ≤ 5 → g i = S' i) (cm : ∀ k : Nat, (k : Int) < S 7 → G' (A (10 + k)) = some (mtC A S' W' k)) (cl : ∀ j : Nat, (j : Int) < S 8 → G' (A (60 + j)) = some (loC S' j)) : hsR D X tg hid A S' W' G' := by
  have hb := h.1
  have hal : ∀ {r t : Nat} {n : Int} {el : Int → Nat}, usd S r → ((2 ≤ r ∧ r ≤ 5) ∨ (20 ≤ r ∧ r < 60)) → ((2 ≤ t ∧ t ≤ 5) ∨ (20 ≤ t ∧ t < 60)) → alR D X tg (100 * hid + t) G (A r) n el → alR D X tg (100 * hid + t) G' (A r) n el := fun hr hr2 ht hh => alR_mv hh (fun e he => hl _ e _ he (h.2.1 _ hr) hr2) (fun q e he ht2 => ⟨hl q e _ he ht2 ht, rfl⟩)
  obtain ⟨h1, h2, h3, h4, h5, h6, h7, h8⟩ := id h
  refine ⟨by rw [hs.1, hs.2.1]; exact h1, fun r hr => h2 r ((usd_E hs).mp hr), c0, c1, by rw [hs.1]; exact hal us_2 (by omega) (by omega) h5, by rw [hs.2.1]; exact hal us_4 (by omega) (by omega) h6, fun k hk => ?_, fun j hj => cl j (by rw [hs.2.1] at hj; exact hj)⟩
  rw [hs.1] at hk
  obtain ⟨-, m2, m3⟩ := h7 k hk
  refine ⟨cm k hk, ?_, ?_⟩
  · rw [ch_E hs]
    rw [Nat.add_assoc] at m2 ⊢
    exact hal (us_f hk) (by omega) (by omega) m2
  · rw [ls_E hs]
    rw [Nat.add_assoc] at m3 ⊢
    exact hal (us_ll hk) (by omega) (by omega) m3
theorem mtC_E {S' W' : Int → Int} {k : Nat} (hw : W' k = W k) (hj : ∀ j, 0 ≤ j → j ≤ 12 → S' (11 + 13 * (k : Int) + j) = S (11 + 13 * (k : Int) + j)) : mtC A S' W' k = mtC A S W k := by
  unfold mtC thV
  have h0 := hj 0 (by omega) (by omega)
  rw [Int.add_zero] at h0
  rw [hw, h0, hj 1 (by omega) (by omega), hj 2 (by omega) (by omega), hj 3 (by omega) (by omega), hj 4 (by omega) (by omega), hj 5 (by omega) (by omega), hj 6 (by omega) (by omega), hj 7 (by omega) (by omega), hj 8 (by omega) (by omega), hj 9 (by omega) (by omega), hj 10 (by omega) (by omega), hj 11 (by omega) (by omega), hj 12 (by omega) (by omega)]
theorem loC_E {S' : Int → Int} {j : Nat} (h : ∀ i, 0 ≤ i → i ≤ 2 → S' (102 + 3 * (j : Int) + i) = S (102 + 3 * (j : Int) + i)) : loC S' j = loC S j := by
  unfold loC
  have h0 := h 0 (by omega) (by omega)
  rw [Int.add_zero] at h0
  rw [h0, h 1 (by omega) (by omega), h 2 (by omega) (by omega)]
/-- one meter's numbers change -/
theorem hs_upM {S' W' : Int → Int} {m : Nat} (h : hsR D X tg hid A S W G) (hm : (m : Int) < S 7) (hS : ∀ i, 0 ≤ i → i < 138 → i ≠ 9 → (i ≤ 11 + 13 * (m : Int) ∨ 11 + 13 * (m : Int) + 13 ≤ i) → S' i = S i) (hW : ∀ k : Nat, (k : Int) < S 7 → k ≠ m → W' k = W k) : hsR D X tg hid A S' W' (gup G (A (10 + m)) (mtC A S' W' m)) := by
  have hb := h.1
  have hu := us_m hm
  have ne : ∀ r, usd S r → r ≠ 10 + m → A r ≠ A (10 + m) := fun r hr hn => hs_ne h hr hu hn
  refine hs_gen h ⟨hS 7 (by omega) (by omega) (by omega) (by omega), hS 8 (by omega) (by omega) (by omega) (by omega), fun k hk => hS _ (by omega) (by omega) (by omega) (by omega), fun j hj => hS _ (by omega) (by omega) (by omega) (by omega)⟩ ?_ ?_ ?_ ?_ ?_
  · intro q e r he ht hr
    rw [gup_n (fun z => by rw [z, h.2.1 _ hu] at ht; omega)]
    exact he
  · rw [gup_n (ne 0 us_0 (by omega)), h.2.2.1]
    unfold hoO
    rw [hS 6 (by omega) (by omega) (by omega) (by omega), hS 10 (by omega) (by omega) (by omega) (by omega)]
  · obtain ⟨g, h4, h4'⟩ := h.2.2.2.1
    exact ⟨g, by rw [gup_n (ne 1 us_1 (by omega))]; exact h4, fun i a b => by rw [h4' i a b, hS i (by omega) (by omega) (by omega) (by omega)]⟩
  · intro k hk
    by_cases e : k = m
    · subst e; exact gup_s
    · rw [gup_n (ne _ (us_m hk) (by omega)), (h.2.2.2.2.2.2.1 k hk).1, mtC_E (W := W) (S := S) (hW k hk e) (fun j a b => hS _ (by omega) (by omega) (by omega) (by omega))]
  · intro j hj
    rw [gup_n (ne _ (us_l hj) (by omega)), h.2.2.2.2.2.2.2 j hj, loC_E (S := S) (fun i a b => hS _ (by omega) (by omega) (by omega) (by omega))]
/-- the time or the count of seals changes -/
theorem hs_upH {S' : Int → Int} (h : hsR D X tg hid A S W G) (hS : ∀ i, 0 ≤ i → i < 138 → i ≠ 6 → i ≠ 9 → i ≠ 10 → S' i = S i) : hsR D X tg hid A S' W (gup G (A 0) (hoO A S')) := by
  have hb := h.1
  have ne : ∀ r, usd S r → r ≠ 0 → A r ≠ A 0 := fun r hr hn => hs_ne h hr us_0 hn
  refine hs_gen h ⟨hS 7 (by omega) (by omega) (by omega) (by omega) (by omega), hS 8 (by omega) (by omega) (by omega) (by omega) (by omega), fun k hk => hS _ (by omega) (by omega) (by omega) (by omega) (by omega), fun j hj => hS _ (by omega) (by omega) (by omega) (by omega) (by omega)⟩ ?_ gup_s ?_ ?_ ?_
  · intro q e r he ht hr
    rw [gup_n (fun z => by rw [z, h.2.1 _ us_0] at ht; omega)]
    exact he
  · obtain ⟨g, h4, h4'⟩ := h.2.2.2.1
    exact ⟨g, by rw [gup_n (ne 1 us_1 (by omega))]; exact h4, fun i a b => by rw [h4' i a b, hS i (by omega) (by omega) (by omega) (by omega) (by omega)]⟩
  · intro k hk
    rw [gup_n (ne _ (us_m hk) (by omega)), (h.2.2.2.2.2.2.1 k hk).1, mtC_E (W := W) (S := S) rfl (fun j a b => hS _ (by omega) (by omega) (by omega) (by omega) (by omega))]
  · intro j hj
    rw [gup_n (ne _ (us_l hj) (by omega)), h.2.2.2.2.2.2.2 j hj, loC_E (S := S) (fun i a b => hS _ (by omega) (by omega) (by omega) (by omega) (by omega))]
/-- one load's numbers change -/
theorem hs_upL {S' : Int → Int} {n : Nat} (h : hsR D X tg hid A S W G) (hn : (n : Int) < S 8) (hS : ∀ i, 0 ≤ i → i < 138 → i ≠ 9 → (i ≤ 102 + 3 * (n : Int) ∨ 102 + 3 * (n : Int) + 3 ≤ i) → S' i = S i) : hsR D X tg hid A S' W (gup G (A (60 + n)) (loC S' n)) := by
  have hb := h.1
  have hu := us_l hn
  have ne : ∀ r, usd S r → r ≠ 60 + n → A r ≠ A (60 + n) := fun r hr hn => hs_ne h hr hu hn
  refine hs_gen h ⟨hS 7 (by omega) (by omega) (by omega) (by omega), hS 8 (by omega) (by omega) (by omega) (by omega), fun k hk => hS _ (by omega) (by omega) (by omega) (by omega), fun j hj => hS _ (by omega) (by omega) (by omega) (by omega)⟩ ?_ ?_ ?_ ?_ ?_
  · intro q e r he ht hr
    rw [gup_n (fun z => by rw [z, h.2.1 _ hu] at ht; omega)]
    exact he
  · rw [gup_n (ne 0 us_0 (by omega)), h.2.2.1]
    unfold hoO
    rw [hS 6 (by omega) (by omega) (by omega) (by omega), hS 10 (by omega) (by omega) (by omega) (by omega)]
  · obtain ⟨g, h4, h4'⟩ := h.2.2.2.1
    exact ⟨g, by rw [gup_n (ne 1 us_1 (by omega))]; exact h4, fun i a b => by rw [h4' i a b, hS i (by omega) (by omega) (by omega) (by omega)]⟩
  · intro k hk
    rw [gup_n (ne _ (us_m hk) (by omega)), (h.2.2.2.2.2.2.1 k hk).1, mtC_E (W := W) (S := S) rfl (fun j a b => hS _ (by omega) (by omega) (by omega) (by omega))]
  · intro j hj
    by_cases e : j = n
    · subst e; exact gup_s
    · rw [gup_n (ne _ (us_l hj) (by omega)), h.2.2.2.2.2.2.2 j hj, loC_E (S := S) (fun i a b => hS _ (by omega) (by omega) (by omega) (by omega))]
/-- a setting changes -/
theorem hs_upS {S' g : Int → Int} (h : hsR D X tg hid A S W G) (hS : ∀ i, 6 ≤ i → i < 138 → i ≠ 9 → S' i = S i) (hg : ∀ i, 0 ≤ i → i ≤ 5 → g i = S' i) : hsR D X tg hid A S' W (gup G (A 1) (iA D 6 g)) := by
  have hb := h.1
  have ne : ∀ r, usd S r → r ≠ 1 → A r ≠ A 1 := fun r hr hn => hs_ne h hr us_1 hn
  refine hs_gen h ⟨hS 7 (by omega) (by omega) (by omega), hS 8 (by omega) (by omega) (by omega), fun k hk => hS _ (by omega) (by omega) (by omega), fun j hj => hS _ (by omega) (by omega) (by omega)⟩ ?_ ?_ ⟨g, gup_s, hg⟩ ?_ ?_
  · intro q e r he ht hr
    rw [gup_n (fun z => by rw [z, h.2.1 _ us_1] at ht; omega)]
    exact he
  · rw [gup_n (ne 0 us_0 (by omega)), h.2.2.1]
    unfold hoO
    rw [hS 6 (by omega) (by omega) (by omega), hS 10 (by omega) (by omega) (by omega)]
  · intro k hk
    rw [gup_n (ne _ (us_m hk) (by omega)), (h.2.2.2.2.2.2.1 k hk).1, mtC_E (W := W) (S := S) rfl (fun j a b => hS _ (by omega) (by omega) (by omega))]
  · intro j hj
    rw [gup_n (ne _ (us_l hj) (by omega)), h.2.2.2.2.2.2.2 j hj, loC_E (S := S) (fun i a b => hS _ (by omega) (by omega) (by omega))]
/-- a row the same in what is seen of it -/
theorem hs_row {S' : Int → Int} (h : hsR D X tg hid A S W G) (hS : ∀ i, 0 ≤ i → i < 138 → i ≠ 9 → S' i = S i) : hsR D X tg hid A S' W G := by
  have := hs_upH (S' := S') h (fun i a b _ c _ => hS i a b c)
  rwa [gup_id] at this
  rw [h.2.2.1]
  unfold hoO
  rw [hS 6 (by omega) (by omega) (by omega), hS 10 (by omega) (by omega) (by omega)]
end HS
/-! ===== children ===== -/
section CH
variable {S : Int → Int}
theorem ch_mem {k : Int} {c : Nat} : c ∈ chL S k ↔ (c : Int) < S 7 ∧ 0 < c ∧ S (11 + 13 * (c : Int)) = k := by
  unfold chL chP
  rw [List.mem_filter, List.mem_range]
  simp
theorem ls_mem {k : Int} {j : Nat} : j ∈ lsL S k ↔ (j : Int) < S 8 ∧ S (102 + 3 * (j : Int)) = k := by
  unfold lsL
  rw [List.mem_filter, List.mem_range]
  simp
theorem gd_mem {L : List Nat} {i : Nat} (h : i < L.length) : L.getD i 0 ∈ L := by
  rw [List.getD_eq_getElem?_getD, List.getElem?_eq_getElem h]
  exact List.getElem_mem h
theorem ch_len {k : Int} (h : S 7 ≤ 7) : (chL S k).length ≤ 7 := by
  have := List.length_filter_le (chP S k) (List.range (S 7).toNat)
  rw [List.length_range] at this
  unfold chL
  omega
theorem ls_len {k : Int} (h : S 8 ≤ 12) : (lsL S k).length ≤ 12 := by
  have := List.length_filter_le (fun j : Nat => decide (S (102 + 3 * (j : Int)) = k)) (List.range (S 8).toNat)
  rw [List.length_range] at this
  unfold lsL
  omega
/-- sums over a list's first ones -/
def smL (F : Nat → Int) (L : List Nat) : Int := (L.map F).sum
theorem smL_app {F : Nat → Int} {L M : List Nat} : smL F (L ++ M) = smL F L + smL F M := by simp [smL]
theorem smL_take {F : Nat → Int} {L : List Nat} {i : Nat} (h : i < L.length) : smL F (L.take (i + 1)) = smL F (L.take i) + F (L.getD i 0) := by
  rw [List.take_succ, smL_app, List.getD_eq_getElem?_getD, List.getElem?_eq_getElem h]
  simp [smL]
/-- a sum over a filtered range -/
theorem smL_range {F : Nat → Int} {p : Nat → Bool} {n : Nat} : smL F ((List.range (n + 1)).filter p) = smL F ((List.range n).filter p) + (if p n = true then F n else 0) := by
  rw [List.range_succ, List.filter_append, smL_app]
  congr 1
  by_cases h : p n = true
  · simp [smL, h]
  · simp [smL, h]
def ind (b : Bool) : Int := if b = true then 1 else 0
theorem thr_lt (hT : treeW S) {x c : Int} (hc : 0 ≤ c) (h : x < c) : thr S x c = false := by
  rw [thr_end (by omega)]
  simp
  omega
theorem thr_self {k : Int} : thr S k k = true := by rw [thr_end (by omega)]; simp
/-- a meter is k, or comes through one of k's children -/
theorem thr_sum (hT : treeW S) {k : Int} (h0 : 0 ≤ k) : ∀ (n x : Nat), x < n → (x : Int) < S 7 → ind (thr S x k) = ind (decide ((x : Int) = k)) + smL (fun c => ind (thr S x c)) (chL S k)
  | 0, _, h, _ => by omega
  | n + 1, x, hx, h7 => by
    have hz : ∀ (L : List Nat), (∀ c ∈ L, (x : Int) < c) → smL (fun c => ind (thr S x c)) L = 0 := by
      intro L
      induction L with
      | nil => intro _; rfl
      | cons c L ih =>
        intro h
        have hc := h c List.mem_cons_self
        have h2 := ih (fun d hd => h d (List.mem_cons_of_mem _ hd))
        simp only [smL, List.map_cons, List.sum_cons] at h2 ⊢
        rw [h2, thr_lt hT (by omega) hc]
        rfl
    have hch : ∀ c ∈ chL S k, k < (c : Int) := fun c hc => by
      have := ch_mem.mp hc
      have := (hT.2 c (by omega) this.1).2
      omega
    by_cases hk : k < (x : Int)
    · -- further up
      have ht := hT.2 x (by omega) h7
      rw [thr_step hT h0 hk h7]
      obtain ⟨y, hy⟩ : ∃ y : Nat, S (11 + 13 * (x : Int)) = y := ⟨(S (11 + 13 * (x : Int))).toNat, by omega⟩
      rw [hy]
      have ih := thr_sum hT h0 n y (by omega) (by omega)
      rw [ih]
      have key : ∀ m : Nat, smL (fun c => ind (thr S x c)) ((List.range m).filter (chP S k)) = smL (fun c => ind (thr S y c)) ((List.range m).filter (chP S k)) + (if x < m ∧ (y : Int) = k then 1 else 0) := by
        intro m
        induction m with
        | zero => simp [smL]
        | succ m ihm =>
          rw [smL_range, smL_range, ihm]
          by_cases hp : chP S k m = true
          · rw [if_pos hp, if_pos hp]
            have hp2 : 0 < m ∧ S (11 + 13 * (m : Int)) = k := by simpa [chP] using hp
            by_cases e : m = x
            · subst e
              rw [thr_self, thr_lt hT (by omega) (by omega : (y : Int) < m), if_neg (by omega), if_pos ⟨by omega, by omega⟩]
              simp [ind]
            · by_cases l : m < x
              · rw [thr_step hT (by omega) (by omega : (m : Int) < x) h7, hy, if_neg (by omega), if_neg (by omega)]
                omega
              · rw [thr_lt hT (by omega) (by omega : (x : Int) < m), thr_lt hT (by omega) (by omega : (y : Int) < m)]
                by_cases q : (y : Int) = k
                · rw [if_pos ⟨by omega, q⟩, if_pos ⟨by omega, q⟩]; omega
                · rw [if_neg (by omega), if_neg (by omega)]; omega
          · rw [if_neg hp, if_neg hp]
            by_cases e : m = x
            · subst e
              have : (y : Int) ≠ k := fun z => hp (by simp [chP]; exact ⟨by omega, by omega⟩)
              rw [if_neg (by omega), if_neg (by omega)]
            · by_cases q : (y : Int) = k
              · by_cases l : x < m
                · rw [if_pos ⟨by omega, q⟩, if_pos ⟨by omega, q⟩]; omega
                · rw [if_neg (by omega), if_neg (by omega)]
              · rw [if_neg (by omega), if_neg (by omega)]
      have := key (S 7).toNat
      unfold chL
      rw [this]
      rw [show decide ((x : Int) = k) = false by simp; omega]
      by_cases q : (y : Int) = k
      · rw [if_pos ⟨by omega, q⟩, show decide ((y : Int) = k) = true by simpa using q]; simp [ind]; omega
      · rw [if_neg (by omega), show decide ((y : Int) = k) = false by simpa using q]; simp [ind]
    · rw [hz _ (fun c hc => by have := hch c hc; omega), thr_end hk]
      simp [ind]
end CH
