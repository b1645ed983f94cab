/-! ===== a house being made ===== -/
set_option maxRecDepth 100000
def usX (nm nd : Nat) (r : Nat) : Prop := r = 0 ∨ r = 1 ∨ r = 2 ∨ r = 4 ∨ (∃ k : Nat, k < nm ∧ (r = 10 + k ∨ r = 20 + k ∨ r = 40 + k)) ∨ ∃ j : Nat, j < nd ∧ r = 60 + j
/-- a house with nm meters' and nd loads' objects, ml and nl of them in its lists, the meters' lists fl and ll -/
def hsX (D : va_G) (X : Nat → Nat) (tg : Nat → Nat) (hid : Nat) (A : Nat → Nat) (S W : Int → Int) (ml nl : Int) (nm nd : Nat) (fl ll : Nat → List Nat) (G : gM) : Prop :=
  (nm ≤ 7 ∧ nd ≤ 12) ∧ (∀ r, usX nm nd r → tg (A r) = 100 * hid + r) ∧ G (A 0) = some (hoO A S) ∧ (∃ g : Int → Int, G (A 1) = some (iA D 6 g) ∧ ∀ i, 0 ≤ i → i ≤ 5 → g i = S i) ∧
  alR D X tg (100 * hid + 3) G (A 2) ml (fun i => A (10 + i.toNat)) ∧ alR D X tg (100 * hid + 5) G (A 4) nl (fun i => A (60 + i.toNat)) ∧
  (∀ k : Nat, k < nm → G (A (10 + k)) = some (mtC A S W k) ∧ alR D X tg (100 * hid + 30 + k) G (A (20 + k)) (fl k).length (lel A 10 (fl k)) ∧ alR D X tg (100 * hid + 50 + k) G (A (40 + k)) (ll k).length (lel A 60 (ll k))) ∧ ∀ j : Nat, j < nd → G (A (60 + j)) = some (loC S j)
/-- the tags of what was there stay; what is new is the house's, or garbage (999) -/
def tgR (tg tg' : Nat → Nat) (hid : Nat) (G G' : gM) : Prop := (∀ q, G q ≠ none → tg q / 100 ≠ 999 → tg' q = tg q) ∧ (∀ q e, G q = some e → tg q / 100 ≠ hid → tg q / 100 ≠ 999 → G' q = some e) ∧ (∀ q, G q = none → G' q ≠ none → tg' q / 100 = hid ∨ 998 ≤ tg' q / 100) ∧ (∀ q, G q ≠ none → tg q / 100 = 999 → (tg' q / 100 = hid ∨ tg' q / 100 = 999)) ∧ ∀ q, G q ≠ none → G' q ≠ none
theorem tgR_tr {tg tg1 tg2 : Nat → Nat} {hid : Nat} {G G1 G2 : gM} (hh : hid ≠ 999) (a : tgR tg tg1 hid G G1) (b : tgR tg1 tg2 hid G1 G2) : tgR tg tg2 hid G G2 := by
  obtain ⟨a1, a2, a3, a4, a5⟩ := a
  obtain ⟨b1, b2, b3, b4, b5⟩ := b
  refine ⟨fun q hq ht => ?_, fun q e he h1 h2 => ?_, fun q hq hq' => ?_, fun q hq ht => ?_, fun q hq => b5 q (a5 q hq)⟩
  · have := a1 q hq ht
    rw [b1 q (a5 q hq) (by rw [this]; exact ht), this]
  · have := a1 q (by rw [he]; exact fun z => by cases z) h2
    exact b2 q e (a2 q e he h1 h2) (by rw [this]; exact h1) (by rw [this]; exact h2)
  · by_cases e : G1 q = none
    · exact b3 q e hq'
    · rcases a3 q hq e with h | h
      · left; rw [b1 q e (by omega)]; exact h
      · by_cases k : tg1 q / 100 = 999
        · rcases b4 q e k with h | h <;> omega
        · right; rw [b1 q e k]; exact h
  · rcases a4 q hq ht with h | h
    · left; rw [b1 q (a5 q hq) (by omega)]; exact h
    · exact b4 q (a5 q hq) h
theorem tgR_rf {tg : Nat → Nat} {hid : Nat} {G : gM} : tgR tg tg hid G G := ⟨fun _ _ _ => rfl, fun _ _ h _ _ => h, fun _ h h' => absurd h h', fun _ _ h => Or.inr h, fun _ h => h⟩
/-- other houses are not touched -/
theorem hs_tg {D : va_G} {X tg tg' : Nat → Nat} {hid h2 : Nat} {A : Nat → Nat} {S W : Int → Int} {G G' : gM} (h : hsR D X tg h2 A S W G) (ht : tgR tg tg' hid G G') (hne : h2 ≠ hid) (h9 : h2 ≠ 999) : hsR D X tg' h2 A S W G' :=
  hs_mv h (fun q e he hq => ⟨ht.2.1 q e he (by rw [hq]; exact hne) (by rw [hq]; exact h9), ht.1 q (by rw [he]; exact fun z => by cases z) (by rw [hq]; exact h9)⟩)
theorem gup_nn {G : gM} {a q : Nat} {e : va_E} (h : G q ≠ none) : gup G a e q ≠ none := by
  by_cases z : q = a
  · rw [z, gup_s]; exact fun z => by cases z
  · rw [gup_n z]; exact h
section HX
variable {D : va_G} {X tg : Nat → Nat} {hid : Nat} {A : Nat → Nat} {S W : Int → Int} {ml nl : Int} {nm nd : Nat} {fl ll : Nat → List Nat} {G : gM}
theorem hx_of (h : hsR D X tg hid A S W G) : hsX D X tg hid A S W (S 7) (S 8) (S 7).toNat (S 8).toNat (fun k => chL S k) (fun k => lsL S k) G := by
  obtain ⟨h1, h2, h3, h4, h5, h6, h7, h8⟩ := h
  refine ⟨by omega, fun r hr => h2 r ?_, h3, h4, h5, h6, fun k hk => h7 k (by omega), fun j hj => h8 j (by omega)⟩
  rcases hr with rfl | rfl | rfl | rfl | ⟨k, hk, hr⟩ | ⟨j, hj, hr⟩
  · exact us_0
  · exact us_1
  · exact us_2
  · exact us_4
  · exact Or.inr (Or.inr (Or.inr (Or.inr (Or.inl ⟨k, by omega, hr⟩))))
  · exact Or.inr (Or.inr (Or.inr (Or.inr (Or.inr ⟨j, by omega, hr⟩))))
theorem hx_to (h : hsX D X tg hid A S W ml nl nm nd fl ll G) (e1 : ml = S 7) (e2 : nl = S 8) (e3 : (nm : Int) = S 7) (e4 : (nd : Int) = S 8) (hf : ∀ k : Nat, k < nm → fl k = chL S k) (hl : ∀ k : Nat, k < nm → ll k = lsL S k) : hsR D X tg hid A S W G := by
  obtain ⟨h1, h2, h3, h4, h5, h6, h7, h8⟩ := h
  subst e1
  subst e2
  refine ⟨by omega, fun r hr => h2 r ?_, h3, h4, h5, h6, fun k hk => ?_, fun j hj => h8 j (by omega)⟩
  · rcases hr with rfl | rfl | rfl | rfl | ⟨k, hk, hr⟩ | ⟨j, hj, hr⟩
    · exact Or.inl rfl
    · exact Or.inr (Or.inl rfl)
    · exact Or.inr (Or.inr (Or.inl rfl))
    · exact Or.inr (Or.inr (Or.inr (Or.inl rfl)))
    · exact Or.inr (Or.inr (Or.inr (Or.inr (Or.inl ⟨k, by omega, hr⟩))))
    · exact Or.inr (Or.inr (Or.inr (Or.inr (Or.inr ⟨j, by omega, hr⟩))))
  · obtain ⟨a, b, c⟩ := h7 k (by omega)
    rw [hf k (by omega)] at b
    rw [hl k (by omega)] at c
    exact ⟨a, b, c⟩
theorem ux_lt {r : Nat} (h : hsX D X tg hid A S W ml nl nm nd fl ll G) (hr : usX nm nd r) : r < 100 := by
  have := h.1
  rcases hr with rfl | rfl | rfl | rfl | ⟨k, hk, rfl | rfl | rfl⟩ | ⟨j, hj, rfl⟩ <;> omega
theorem ux_m {k : Nat} (h : k < nm) : usX nm nd (10 + k) := Or.inr (Or.inr (Or.inr (Or.inr (Or.inl ⟨k, h, Or.inl rfl⟩))))
theorem ux_f {k : Nat} (h : k < nm) : usX nm nd (20 + k) := Or.inr (Or.inr (Or.inr (Or.inr (Or.inl ⟨k, h, Or.inr (Or.inl rfl)⟩))))
theorem ux_ll {k : Nat} (h : k < nm) : usX nm nd (40 + k) := Or.inr (Or.inr (Or.inr (Or.inr (Or.inl ⟨k, h, Or.inr (Or.inr rfl)⟩))))
theorem ux_l {j : Nat} (h : j < nd) : usX nm nd (60 + j) := Or.inr (Or.inr (Or.inr (Or.inr (Or.inr ⟨j, h, rfl⟩))))
theorem ux_0 : usX nm nd 0 := Or.inl rfl
theorem ux_1 : usX nm nd 1 := Or.inr (Or.inl rfl)
theorem ux_2 : usX nm nd 2 := Or.inr (Or.inr (Or.inl rfl))
theorem ux_4 : usX nm nd 4 := Or.inr (Or.inr (Or.inr (Or.inl rfl)))
theorem ux_some {r : Nat} (h : hsX D X tg hid A S W ml nl nm nd fl ll G) (hr : usX nm nd r) : ∃ e, G (A r) = some e := by
  obtain ⟨h1, h2, h3, ⟨g, h4, -⟩, ⟨_, _, -, h5, -⟩, ⟨_, _, -, h6, -⟩, h7, h8⟩ := h
  rcases hr with rfl | rfl | rfl | rfl | ⟨k, hk, rfl | rfl | rfl⟩ | ⟨j, hj, rfl⟩
  · exact ⟨_, h3⟩
  · exact ⟨_, h4⟩
  · exact ⟨_, h5⟩
  · exact ⟨_, h6⟩
  · exact ⟨_, (h7 k hk).1⟩
  · obtain ⟨-, ⟨_, _, -, h, -⟩, -⟩ := h7 k hk; exact ⟨_, h⟩
  · obtain ⟨-, -, ⟨_, _, -, h, -⟩⟩ := h7 k hk; exact ⟨_, h⟩
  · exact ⟨_, h8 j hj⟩
/-- a list appended to: the list itself -/
theorem alR_ad {G' : gM} {a ar b : Nat} {mc n : Int} {el : Int → Nat} (h : adP D G a ar (mc + 1) n el b G') (hn : 0 ≤ n ∧ n < 1000) (hne : ∀ q e, G q = some (.inl e) → q ≠ a) (hex : G a ≠ none) : ∃ ar', ((ar' = ar ∧ ∃ e, G ar = some (.inl e)) ∨ G ar' = none) ∧ ar' ≠ a ∧ (∀ q, q ≠ a → q ≠ ar' → G' q = G q) ∧ (∀ q, G q ≠ none → G' q ≠ none) ∧ (∀ (tg' : Nat → Nat) (t : Nat), tg' ar' = t → alR D X tg' t G' a (n + 1) (fu el n b)) := by
  obtain ⟨ar', cap', f', h1, h2, h3, rfl⟩ := h
  have hna : ar' ≠ a := by
    rcases h3 with ⟨rfl, e, he⟩ | h3
    · exact hne _ _ he
    · intro z; rw [z] at h3; exact hex h3
  have hmc : alO (mc + 1) ar' (n + 1) = alO (iI (mc + 1)).toInt ar' (n + 1) := by unfold alO; rw [← iI_of]
  refine ⟨ar', h3, hna, fun q hq hq2 => (by rw [gup_n hq, gup_n hq2]), fun q hq => gup_nn (gup_nn hq), fun tg' t ht => ⟨(iI (mc + 1)).toInt, ar', ⟨Int32.le_toInt _, Int32.toInt_lt _⟩, (by rw [gup_s, hmc]), (by omega), Or.inr ⟨ht, cap', f', (by rw [gup_n hna, gup_s]), h1, (by omega), (by omega), (by omega)⟩⟩⟩
/-- one list of the house changes: what stays -/
theorem hx_list {G' : gM} {r0 T0 ar b : Nat} {mc n : Int} {el : Int → Nat} (h : hsX D X tg hid A S W ml nl nm nd fl ll G) (h0 : usX nm nd r0) (hT : T0 < 100) (hc : G (A r0) = some (alO mc ar n)) (har : ar = X 0 ∨ tg ar = 100 * hid + T0) (hX0 : G (X 0) = none) (ha : adP D G (A r0) ar (mc + 1) n el b G') (hn : 0 ≤ n ∧ n < 1000) (hu : ∀ r, usX nm nd r → r ≠ T0) (hh : hid < 999) :
    ∃ tg' : Nat → Nat, tgR tg tg' hid G G' ∧ (∀ r, usX nm nd r → tg' (A r) = 100 * hid + r) ∧ (∀ r, usX nm nd r → r ≠ r0 → G' (A r) = G (A r)) ∧ (∀ r T n el, usX nm nd r → r ≠ r0 → T < 100 → T ≠ T0 → T ≠ r0 → alR D X tg (100 * hid + T) G (A r) n el → alR D X tg' (100 * hid + T) G' (A r) n el) ∧ alR D X tg' (100 * hid + T0) G' (A r0) (n + 1) (fu el n b) := by
  obtain ⟨ar', h3, hna, hfr, hnn, hal⟩ := alR_ad (X := X) ha hn (fun q e he z => by rw [z, hc] at he; cases he) (by rw [hc]; exact fun z => by cases z)
  have h3' : (G ar' ≠ none ∧ tg ar' = 100 * hid + T0) ∨ G ar' = none := by
    rcases h3 with ⟨rfl, e, he⟩ | h3
    · rcases har with rfl | har
      · rw [hX0] at he; cases he
      · exact Or.inl ⟨(by rw [he]; exact fun z => by cases z), har⟩
    · exact Or.inr h3
  have hk : ∀ q, G q ≠ none → (if q = ar' then 100 * hid + T0 else tg q) = tg q := fun q hq => by
    by_cases e : q = ar'
    · rw [if_pos e, e]
      rcases h3' with h | h
      · exact h.2.symm
      · rw [e, h] at hq; exact absurd rfl hq
    · rw [if_neg e]
  have hsome : ∀ r, usX nm nd r → G (A r) ≠ none := fun r hr z => by obtain ⟨e, he⟩ := ux_some h hr; rw [z] at he; cases he
  have hr' : ∀ r, usX nm nd r → A r ≠ ar' := fun r hr z => by
    rcases h3' with ⟨-, h4⟩ | h4
    · rw [← z, h.2.1 r hr] at h4
      exact hu r hr (by omega)
    · rw [← z] at h4; exact hsome r hr h4
  have hne : ∀ r, usX nm nd r → r ≠ r0 → A r ≠ A r0 := fun r hr hn z => by
    have a := h.2.1 r hr
    rw [z, h.2.1 r0 h0] at a
    omega
  have hlt := ux_lt h h0
  refine ⟨fun q => if q = ar' then 100 * hid + T0 else tg q, ⟨fun q hq _ => hk q hq, fun q e he ht _ => ?_, fun q hq hq' => ?_, fun q _ hq => ?_, hnn⟩, fun r hr => ?_, fun r hr hn => hfr _ (hne r hr hn) (hr' r hr), fun r T n el hr hn hT2 hT3 hT4 hh => ?_, hal _ _ (if_pos rfl)⟩
  · rw [hfr q (fun z => by rw [z, h.2.1 r0 h0] at ht; omega) (fun z => ?_)]
    · exact he
    · rcases h3' with ⟨-, h4⟩ | h4
      · rw [z, h4] at ht; omega
      · rw [z, h4] at he; cases he
  · left
    by_cases e : q = ar'
    · show (if q = ar' then 100 * hid + T0 else tg q) / 100 = hid
      rw [if_pos e]; omega
    · exact absurd (by rw [hfr q (fun z => by rw [z, hc] at hq; cases hq) e]; exact hq) hq'
  · show (if q = ar' then 100 * hid + T0 else tg q) / 100 = hid ∨ (if q = ar' then 100 * hid + T0 else tg q) / 100 = 999
    by_cases e : q = ar'
    · rw [if_pos e]; omega
    · rw [if_neg e]; omega
  · show (if A r = ar' then 100 * hid + T0 else tg (A r)) = _
    rw [if_neg (hr' r hr)]
    exact h.2.1 r hr
  · refine alR_mv hh (fun e he => by rw [hfr _ (hne r hr hn) (hr' r hr)]; exact he) (fun q e he ht => ⟨?_, hk q (by rw [he]; exact fun z => by cases z)⟩)
    rw [hfr q (fun z => by rw [z, h.2.1 r0 h0] at ht; omega) (fun z => ?_)]
    · exact he
    · rcases h3' with ⟨-, h4⟩ | h4
      · rw [z, h4] at ht; omega
      · rw [z, h4] at he; cases he
end HX
