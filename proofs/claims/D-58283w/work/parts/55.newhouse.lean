/-! ===== a new house ===== -/
set_option maxRecDepth 100000
def A_ho (a x y z : Nat) : Nat → Nat := fun r => if r = 0 then a else if r = 1 then x else if r = 2 then y else z
theorem hs_new {D : va_G} {X tg : Nat → Nat} {hid a x y z : Nat} {W g : Int → Int} {G G' : gM} {e0 : va_E} (ha : G a = none) (hx : gup G a e0 x = none) (hy : gup G a e0 y = none) (hz : gup G a e0 z = none) (hd : x ≠ a ∧ y ≠ a ∧ z ≠ a ∧ y ≠ x ∧ z ≠ x ∧ z ≠ y) (hg : ∀ i, 0 ≤ i → i ≤ 5 → g i = row0 i)
    (hG' : G' = gup (gup (gup (gup (gup G a e0) x (iA D 6 g)) y (alO 0 (X 0) 0)) z (alO 0 (X 0) 0)) a (oE 1 [.ref x, .ref y, .ref z, .int (iI 0), .int (iI 0)])) :
    ∃ tg' : Nat → Nat, tgR tg tg' hid G G' ∧ hsR D X tg' hid (A_ho a x y z) row0 W G' := by
  have hx0 := (none_gup hx).2
  have hy0 := (none_gup hy).2
  have hz0 := (none_gup hz).2
  obtain ⟨d1, d2, d3, d4, d5, d6⟩ := hd
  have ca : G' a = some (oE 1 [.ref x, .ref y, .ref z, .int (iI 0), .int (iI 0)]) := by rw [hG', gup_s]
  have cz : G' z = some (alO 0 (X 0) 0) := by rw [hG', gup_n d3, gup_s]
  have cy : G' y = some (alO 0 (X 0) 0) := by rw [hG', gup_n d2, gup_n (Ne.symm d6), gup_s]
  have cx : G' x = some (iA D 6 g) := by rw [hG', gup_n d1, gup_n (Ne.symm d5), gup_n (Ne.symm d4), gup_s]
  have hfr : ∀ q, q ≠ a → q ≠ x → q ≠ y → q ≠ z → G' q = G q := fun q q1 q2 q3 q4 => by rw [hG', gup_n q1, gup_n q4, gup_n q3, gup_n q2, gup_n q1]
  have hex : ∀ q, G q ≠ none → q ≠ a ∧ q ≠ x ∧ q ≠ y ∧ q ≠ z := fun q hq => ⟨fun e => hq (by rw [e]; exact ha), fun e => hq (by rw [e]; exact hx0), fun e => hq (by rw [e]; exact hy0), fun e => hq (by rw [e]; exact hz0)⟩
  have tk : ∀ q, G q ≠ none → (if q = a then 100 * hid else if q = x then 100 * hid + 1 else if q = y then 100 * hid + 2 else if q = z then 100 * hid + 4 else tg q) = tg q := fun q hq => by
    have := hex q hq
    rw [if_neg this.1, if_neg this.2.1, if_neg this.2.2.1, if_neg this.2.2.2]
  refine ⟨fun q => if q = a then 100 * hid else if q = x then 100 * hid + 1 else if q = y then 100 * hid + 2 else if q = z then 100 * hid + 4 else tg q, ⟨fun q hq _ => tk q hq, fun q e he _ _ => ?_, fun q hq hq' => ?_, fun q hq h9 => Or.inr (by show (if q = a then 100 * hid else if q = x then 100 * hid + 1 else if q = y then 100 * hid + 2 else if q = z then 100 * hid + 4 else tg q) / 100 = 999; rw [tk q hq]; exact h9), fun q hq => ?_⟩, ⟨by decide, by decide⟩, fun r hr => ?_, ca, ⟨g, cx, hg⟩, ⟨0, X 0, ⟨by omega, by omega⟩, cy, by decide, Or.inl ⟨rfl, rfl⟩⟩, ⟨0, X 0, ⟨by omega, by omega⟩, cz, by decide, Or.inl ⟨rfl, rfl⟩⟩, fun k hk => ?_, fun j hj => ?_⟩
  · have := hex q (by rw [he]; exact fun z => by cases z)
    rw [hfr q this.1 this.2.1 this.2.2.1 this.2.2.2]; exact he
  · left
    dsimp only
    by_cases e1 : q = a
    · rw [if_pos e1]; omega
    · by_cases e2 : q = x
      · rw [if_neg e1, if_pos e2]; omega
      · by_cases e3 : q = y
        · rw [if_neg e1, if_neg e2, if_pos e3]; omega
        · by_cases e4 : q = z
          · rw [if_neg e1, if_neg e2, if_neg e3, if_pos e4]; omega
          · exact absurd (by rw [hfr q e1 e2 e3 e4]; exact hq) hq'
  · have := hex q hq
    rw [hfr q this.1 this.2.1 this.2.2.1 this.2.2.2]; exact hq
  · have h7 : row0 7 = 0 := rfl
    have h8 : row0 8 = 0 := rfl
    rcases hr with rfl | rfl | rfl | rfl | ⟨k, hk, -⟩ | ⟨j, hj, -⟩
    · show (if a = a then 100 * hid else _) = _
      rw [if_pos rfl]; omega
    · show (if x = a then 100 * hid else if x = x then 100 * hid + 1 else _) = _
      rw [if_neg d1, if_pos rfl]
    · show (if y = a then 100 * hid else if y = x then 100 * hid + 1 else if y = y then 100 * hid + 2 else _) = _
      rw [if_neg d2, if_neg d4, if_pos rfl]
    · show (if z = a then 100 * hid else if z = x then 100 * hid + 1 else if z = y then 100 * hid + 2 else if z = z then 100 * hid + 4 else _) = _
      rw [if_neg d3, if_neg d5, if_neg d6, if_pos rfl]
    · omega
    · omega
  · have h7 : row0 7 = 0 := rfl
    omega
  · have h8 : row0 8 = 0 := rfl
    omega
