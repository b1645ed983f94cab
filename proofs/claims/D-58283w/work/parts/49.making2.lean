/-! ===== a house being made: its lists, meters, loads ===== -/
set_option maxRecDepth 100000
theorem lel_app {A : Nat → Nat} {base c : Nat} {L : List Nat} : ∀ i, 0 ≤ i → i < (L.length : Int) + 1 → lel A base (L ++ [c]) i = fu (lel A base L) (L.length : Int) (A (base + c)) i := fun i h0 h1 => by
  by_cases e : i = L.length
  · rw [e, fu_s]
    unfold lel
    rw [List.getD_eq_getElem?_getD, List.getElem?_append_right (by omega)]
    simp
  · rw [fu_n e]
    unfold lel
    rw [List.getD_eq_getElem?_getD, List.getD_eq_getElem?_getD, List.getElem?_append_left (by omega)]
section HX2
variable {D : va_G} {X tg : Nat → Nat} {hid : Nat} {A : Nat → Nat} {S W : Int → Int} {ml nl : Int} {nm nd : Nat} {fl ll : Nat → List Nat} {G : gM}
theorem hx_feed {G' : gM} {t c ar : Nat} {mc : Int} (h : hsX D X tg hid A S W ml nl nm nd fl ll G) (ht : t < nm) (hc : G (A (20 + t)) = some (alO mc ar (fl t).length)) (har : ar = X 0 ∨ tg ar = 100 * hid + 30 + t) (hX0 : G (X 0) = none) (ha : adP D G (A (20 + t)) ar (mc + 1) (fl t).length (lel A 10 (fl t)) (A (10 + c)) G') (hn : (fl t).length < 1000) (hh : hid < 999) :
    ∃ tg' : Nat → Nat, tgR tg tg' hid G G' ∧ hsX D X tg' hid A S W ml nl nm nd (fun k => if k = t then fl t ++ [c] else fl k) ll G' := by
  have hb := h.1
  obtain ⟨tg', h1, h2, h3, h4, h5⟩ := hx_list h (ux_f ht) (T0 := 30 + t) (by omega) hc (by rw [← Nat.add_assoc]; exact har) hX0 ha (by omega) (fun r hr => by rcases hr with rfl | rfl | rfl | rfl | ⟨k, hk, rfl | rfl | rfl⟩ | ⟨j, hj, rfl⟩ <;> omega) hh
  obtain ⟨a1, a2, a3, ⟨g, a4, a4'⟩, a5, a6, a7, a8⟩ := id h
  refine ⟨tg', h1, a1, h2, by rw [h3 0 ux_0 (by omega)]; exact a3, ⟨g, by rw [h3 1 ux_1 (by omega)]; exact a4, a4'⟩, h4 2 3 _ _ ux_2 (by omega) (by omega) (by omega) (by omega) a5, h4 4 5 _ _ ux_4 (by omega) (by omega) (by omega) (by omega) a6, fun k hk => ?_, fun j hj => by rw [h3 _ (ux_l hj) (by omega)]; exact a8 j hj⟩
  obtain ⟨m1, m2, m3⟩ := a7 k hk
  refine ⟨by rw [h3 _ (ux_m hk) (by omega)]; exact m1, ?_, ?_⟩
  · dsimp only
    by_cases e : k = t
    · subst e
      rw [if_pos rfl, Nat.add_assoc]
      have := alR_el h5 (el' := lel A 10 (fl k ++ [c])) (fun i b0 b1 => lel_app i b0 b1)
      rwa [show ((fl k ++ [c]).length : Int) = ((fl k).length : Int) + 1 by simp]
    · rw [if_neg e]
      rw [Nat.add_assoc] at m2 ⊢
      exact h4 _ _ _ _ (ux_f hk) (by omega) (by omega) (by omega) (by omega) m2
  · rw [Nat.add_assoc] at m3 ⊢
    exact h4 _ _ _ _ (ux_ll hk) (by omega) (by omega) (by omega) (by omega) m3
theorem hx_mload {G' : gM} {t c ar : Nat} {mc : Int} (h : hsX D X tg hid A S W ml nl nm nd fl ll G) (ht : t < nm) (hc : G (A (40 + t)) = some (alO mc ar (ll t).length)) (har : ar = X 0 ∨ tg ar = 100 * hid + 50 + t) (hX0 : G (X 0) = none) (ha : adP D G (A (40 + t)) ar (mc + 1) (ll t).length (lel A 60 (ll t)) (A (60 + c)) G') (hn : (ll t).length < 1000) (hh : hid < 999) :
    ∃ tg' : Nat → Nat, tgR tg tg' hid G G' ∧ hsX D X tg' hid A S W ml nl nm nd fl (fun k => if k = t then ll t ++ [c] else ll k) G' := by
  have hb := h.1
  obtain ⟨tg', h1, h2, h3, h4, h5⟩ := hx_list h (ux_ll ht) (T0 := 50 + t) (by omega) hc (by rw [← Nat.add_assoc]; exact har) hX0 ha (by omega) (fun r hr => by rcases hr with rfl | rfl | rfl | rfl | ⟨k, hk, rfl | rfl | rfl⟩ | ⟨j, hj, rfl⟩ <;> omega) hh
  obtain ⟨a1, a2, a3, ⟨g, a4, a4'⟩, a5, a6, a7, a8⟩ := id h
  refine ⟨tg', h1, a1, h2, by rw [h3 0 ux_0 (by omega)]; exact a3, ⟨g, by rw [h3 1 ux_1 (by omega)]; exact a4, a4'⟩, h4 2 3 _ _ ux_2 (by omega) (by omega) (by omega) (by omega) a5, h4 4 5 _ _ ux_4 (by omega) (by omega) (by omega) (by omega) a6, fun k hk => ?_, fun j hj => by rw [h3 _ (ux_l hj) (by omega)]; exact a8 j hj⟩
  obtain ⟨m1, m2, m3⟩ := a7 k hk
  refine ⟨by rw [h3 _ (ux_m hk) (by omega)]; exact m1, ?_, ?_⟩
  · rw [Nat.add_assoc] at m2 ⊢
    exact h4 _ _ _ _ (ux_f hk) (by omega) (by omega) (by omega) (by omega) m2
  · dsimp only
    by_cases e : k = t
    · subst e
      rw [if_pos rfl, Nat.add_assoc]
      have := alR_el h5 (el' := lel A 60 (ll k ++ [c])) (fun i b0 b1 => lel_app i b0 b1)
      rwa [show ((ll k ++ [c]).length : Int) = ((ll k).length : Int) + 1 by simp]
    · rw [if_neg e]
      rw [Nat.add_assoc] at m3 ⊢
      exact h4 _ _ _ _ (ux_ll hk) (by omega) (by omega) (by omega) (by omega) m3
/-- the next meter into the list of meters -/
theorem hx_ml {G' : gM} {ar : Nat} {mc : Int} {m : Nat} (h : hsX D X tg hid A S W m nl nm nd fl ll G) (hc : G (A 2) = some (alO mc ar (m : Int))) (har : ar = X 0 ∨ tg ar = 100 * hid + 3) (hX0 : G (X 0) = none) (ha : adP D G (A 2) ar (mc + 1) (m : Int) (fun i => A (10 + i.toNat)) (A (10 + m)) G') (hn : m < 1000) (hh : hid < 999) :
    ∃ tg' : Nat → Nat, tgR tg tg' hid G G' ∧ hsX D X tg' hid A S W ((m : Int) + 1) nl nm nd fl ll G' := by
  have hb := h.1
  obtain ⟨tg', h1, h2, h3, h4, h5⟩ := hx_list h ux_2 (T0 := 3) (by omega) hc har hX0 ha (by omega) (fun r hr => by rcases hr with rfl | rfl | rfl | rfl | ⟨k, hk, rfl | rfl | rfl⟩ | ⟨j, hj, rfl⟩ <;> omega) hh
  obtain ⟨a1, a2, a3, ⟨g, a4, a4'⟩, a5, a6, a7, a8⟩ := id h
  refine ⟨tg', h1, a1, h2, by rw [h3 0 ux_0 (by omega)]; exact a3, ⟨g, by rw [h3 1 ux_1 (by omega)]; exact a4, a4'⟩, alR_el h5 (fun i b0 b1 => ?_), h4 4 5 _ _ ux_4 (by omega) (by omega) (by omega) (by omega) a6, fun k hk => ?_, fun j hj => by rw [h3 _ (ux_l hj) (by omega)]; exact a8 j hj⟩
  · by_cases e : i = m
    · rw [e, fu_s]; rfl
    · rw [fu_n e]
  · obtain ⟨m1, m2, m3⟩ := a7 k hk
    refine ⟨by rw [h3 _ (ux_m hk) (by omega)]; exact m1, ?_, ?_⟩
    · rw [Nat.add_assoc] at m2 ⊢
      exact h4 _ _ _ _ (ux_f hk) (by omega) (by omega) (by omega) (by omega) m2
    · rw [Nat.add_assoc] at m3 ⊢
      exact h4 _ _ _ _ (ux_ll hk) (by omega) (by omega) (by omega) (by omega) m3
/-- the next load into the list of loads -/
theorem hx_nl {G' : gM} {ar : Nat} {mc : Int} {m : Nat} (h : hsX D X tg hid A S W ml m nm nd fl ll G) (hc : G (A 4) = some (alO mc ar (m : Int))) (har : ar = X 0 ∨ tg ar = 100 * hid + 5) (hX0 : G (X 0) = none) (ha : adP D G (A 4) ar (mc + 1) (m : Int) (fun i => A (60 + i.toNat)) (A (60 + m)) G') (hn : m < 1000) (hh : hid < 999) :
    ∃ tg' : Nat → Nat, tgR tg tg' hid G G' ∧ hsX D X tg' hid A S W ml ((m : Int) + 1) nm nd fl ll G' := by
  have hb := h.1
  obtain ⟨tg', h1, h2, h3, h4, h5⟩ := hx_list h ux_4 (T0 := 5) (by omega) hc har hX0 ha (by omega) (fun r hr => by rcases hr with rfl | rfl | rfl | rfl | ⟨k, hk, rfl | rfl | rfl⟩ | ⟨j, hj, rfl⟩ <;> omega) hh
  obtain ⟨a1, a2, a3, ⟨g, a4, a4'⟩, a5, a6, a7, a8⟩ := id h
  refine ⟨tg', h1, a1, h2, by rw [h3 0 ux_0 (by omega)]; exact a3, ⟨g, by rw [h3 1 ux_1 (by omega)]; exact a4, a4'⟩, h4 2 3 _ _ ux_2 (by omega) (by omega) (by omega) (by omega) a5, alR_el h5 (fun i b0 b1 => ?_), fun k hk => ?_, fun j hj => by rw [h3 _ (ux_l hj) (by omega)]; exact a8 j hj⟩
  · by_cases e : i = m
    · rw [e, fu_s]; rfl
    · rw [fu_n e]
  · obtain ⟨m1, m2, m3⟩ := a7 k hk
    refine ⟨by rw [h3 _ (ux_m hk) (by omega)]; exact m1, ?_, ?_⟩
    · rw [Nat.add_assoc] at m2 ⊢
      exact h4 _ _ _ _ (ux_f hk) (by omega) (by omega) (by omega) (by omega) m2
    · rw [Nat.add_assoc] at m3 ⊢
      exact h4 _ _ _ _ (ux_ll hk) (by omega) (by omega) (by omega) (by omega) m3
end HX2
section GWX0
variable {p : Program} {l : Launch} {e : Env} {R : Room} {s : State} {m : MethodId} {args : Array Value} {below : List Frame} {meth : Method} {c : Code} {Q : State → Prop}
variable {D : va_G} {X : Nat → Nat} {b0 nL bc bs pc q : Nat} {own : String} {cc : ByteArray} {ret : Option FieldType} {G : gM} {lv lv' lv1 : List (Option Value)} {st : List Value}
/-- the empty array is none of ours -/
theorem gw_x0 (hc : cx p s m args meth c D X b0 own cc nL ret) (k : G (X 0) = none → GW p l e R s m args below meth c D b0 nL Q G bc bs pc lv st) : GW p l e R s m args below meth c D b0 nL Q G bc bs pc lv st := fun H locs ls cells slots h1 h2 hg hl => by
  refine k ?_ H locs ls cells slots h1 h2 hg hl
  cases he : G (X 0) with
  | none => rfl
  | some e =>
    have hb := (hg.1 (X 0) e he).2
    obtain ⟨scr, hs1, hs2, hs3, hs4, -, hs5, hs7⟩ := hc.2.2.2.2.2.2.2.2.2.1.2.2.1
    exact absurd hb hs7
end GWX0

