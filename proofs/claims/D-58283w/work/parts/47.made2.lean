/-! ===== THE CLASS: a house is made, a meter is made ===== -/
set_option maxRecDepth 100000
theorem none_gup {G : gM} {b q : Nat} {e : va_E} (h : gup G b e q = none) : q ≠ b ∧ G q = none := by
  by_cases z : q = b
  · rw [z, gup_s] at h; cases h
  · exact ⟨z, by rw [gup_n z] at h; exact h⟩
/-- a new house's cells -/
def nhP (D : va_G) (X : Nat → Nat) (a : Nat) (G G' : gM) : Prop :=
  ∃ (x y z : Nat) (g : Int → Int), (G x = none ∧ G y = none ∧ G z = none) ∧ (x ≠ a ∧ y ≠ a ∧ z ≠ a ∧ y ≠ x ∧ z ≠ x ∧ z ≠ y) ∧ (∀ i, 0 ≤ i → i ≤ 5 → g i = row0 i) ∧ G' = gup (gup (gup (gup G x (iA D 6 g)) y (alO 0 (X 0) 0)) z (alO 0 (X 0) 0)) a (oE 1 [.ref x, .ref y, .ref z, .int (iI 0), .int (iI 0)])
/-- a new meter's cells -/
def nmP (X : Nat → Nat) (a : Nat) (no : Int) (th : Value) (G G' : gM) (y z : Nat) : Prop :=
  (G y = none ∧ G z = none) ∧ (y ≠ a ∧ z ≠ a ∧ z ≠ y) ∧ G' = gup (gup (gup G y (alO 0 (X 0) 0)) z (alO 0 (X 0) 0)) a (mtO no th y z 0 0 100 0 0 0 0 0 0 0 0 0 0)
theorem nm_ex {X : Nat → Nat} {a y z : Nat} {no : Int} {th : Value} {G G' : gM} (h : nmP X a no th G G' y z) : (∀ q e, q ≠ a → G q = some e → G' q = some e) ∧ G' a = some (mtO no th y z 0 0 100 0 0 0 0 0 0 0 0 0 0) := by
  obtain ⟨⟨h1, h2⟩, -, rfl⟩ := h
  exact ⟨fun q e hq he => by rw [gup_n hq, gup_n (ne_none he h2), gup_n (ne_none he h1)]; exact he, gup_s⟩
theorem alP_x {D : va_G} {X : Nat → Nat} {G G' : gM} {ar : Nat} {n : Int} {el : Int → Nat} (h : alP D X G ar n el) (hx : ∀ e, G ar = some (.inl e) → G' ar = some (.inl e)) : alP D X G' ar n el := by
  obtain ⟨h0, h1 | ⟨cap, f, hA, h2⟩⟩ := h
  · exact ⟨h0, Or.inl h1⟩
  · exact ⟨h0, Or.inr ⟨cap, f, hx _ hA, h2⟩⟩
theorem obL_x {G G' : gM} {a ci : Nat} {n : Int} {el : Int → Nat} {f0 : List Value} (h : obL G ci n el) (hx : ∀ q e, q ≠ a → G q = some e → G' q = some e) (ha : G' a = some (.inr (ci, f0))) : obL G' ci n el := fun i h0 h1 => by
  obtain ⟨fs, hb⟩ := h i h0 h1
  by_cases e : el i = a
  · rw [e]; exact ⟨_, ha⟩
  · exact ⟨fs, hx _ _ e hb⟩
abbrev blM : va_E := oE 3 [.int (iI 0), .null, .null, .null, .int (iI 0), .int (iI 0), .int (iI 0), .int (iI 0), .int (iI 0), .int (iI 0), .int (iI 0), .int (iI 0), .int (iI 0), .int (iI 0), .int (iI 0), .int (iI 0), .long (jI 0)]

theorem mw_J2_init : mI yJ2_init cJ2_init 1 0 := ⟨⟨rfl, by decide +kernel, by decide +kernel, by decide +kernel⟩, q115, q77, q116⟩
set_option maxHeartbeats 4000000 in
theorem m_X1_init {l : Launch} {D : va_G} {X : Nat → Nat} {b0 : Nat} {a : Nat} {G : gM} (hG : G a = some (oE 1 [.null, .null, .null, .int (iI 0), .int (iI 0)])) : gMet l D X b0 yX1_init cX1_init 1 none (rmE 4 3 12) [.ref a] G (pV fun G' => nhP D X a G G') := by
  refine gm_start (own := "EnergyDiscs$House") (lv := [some (.ref a)]) (by decide +kernel) rfl (Nat.le_of_ble_eq_true rfl) rfl (fun p_ e_ s_ m_ args_ below_ meth_ c_ hc hnm => ?_)
  refine gw_aload_n (q := 1) hc dX1_init_0 rfl rfl xg_0 ?_
  refine gw_objInit (q := 4) hc dX1_init_1 rfl q111 (Nat.le_of_ble_eq_true rfl) (Nat.le_of_ble_eq_true rfl) ?_
  refine gw_aload_n (q := 5) hc dX1_init_4 rfl rfl xg_0 ?_
  refine gw_bipush (q := 7) hc dX1_init_5 rfl (by decide) ?_
  refine gw_newi (q := 9) (n := 6) hc dX1_init_7 rfl q141 (by omega) (bc' := 2) (bs' := 6) (Nat.le_of_ble_eq_true rfl) (Nat.le_of_ble_eq_true rfl) (fun x hnx hbx => ?_)
  refine gw_dup (q := 10) hc dX1_init_9 rfl rfl ?_
  refine gw_iconst (q := 11) hc dX1_init_10 rfl ?_
  refine gw_bipush (q := 13) hc dX1_init_11 rfl (by decide) ?_
  refine gw_iast (q := 14) hc dX1_init_13 rfl gup_s (by omega) (by omega) ?_
  refine gw_G gup_gup ?_
  refine gw_dup (q := 15) hc dX1_init_14 rfl rfl ?_
  refine gw_iconst (q := 16) hc dX1_init_15 rfl ?_
  refine gw_iconst (q := 17) hc dX1_init_16 rfl ?_
  refine gw_iast (q := 18) hc dX1_init_17 rfl gup_s (by omega) (by omega) ?_
  refine gw_G gup_gup ?_
  refine gw_dup (q := 19) hc dX1_init_18 rfl rfl ?_
  refine gw_iconst (q := 20) hc dX1_init_19 rfl ?_
  refine gw_iconst (q := 21) hc dX1_init_20 rfl ?_
  refine gw_iast (q := 22) hc dX1_init_21 rfl gup_s (by omega) (by omega) ?_
  refine gw_G gup_gup ?_
  refine gw_dup (q := 23) hc dX1_init_22 rfl rfl ?_
  refine gw_iconst (q := 24) hc dX1_init_23 rfl ?_
  refine gw_sipush (q := 27) hc dX1_init_24 rfl (by decide) ?_
  refine gw_iast (q := 28) hc dX1_init_27 rfl gup_s (by omega) (by omega) ?_
  refine gw_G gup_gup ?_
  refine gw_dup (q := 29) hc dX1_init_28 rfl rfl ?_
  refine gw_iconst (q := 30) hc dX1_init_29 rfl ?_
  refine gw_bipush (q := 32) hc dX1_init_30 rfl (by decide) ?_
  refine gw_iast (q := 33) hc dX1_init_32 rfl gup_s (by omega) (by omega) ?_
  refine gw_G gup_gup ?_
  refine gw_dup (q := 34) hc dX1_init_33 rfl rfl ?_
  refine gw_iconst (q := 35) hc dX1_init_34 rfl ?_
  refine gw_iconst (q := 36) hc dX1_init_35 rfl ?_
  refine gw_iast (q := 37) hc dX1_init_36 rfl gup_s (by omega) (by omega) ?_
  refine gw_G gup_gup ?_
  refine gw_putF (q := 40) hc dX1_init_37 rfl cE_HO 0 (by decide) q142 (fun _ h => h) rfl hnm rfl (gup_k hG hnx) ⟨rfl, rfl⟩ rfl (Nat.le_of_ble_eq_true rfl) ?_
  refine gw_aload_n (q := 41) hc dX1_init_40 rfl rfl xg_0 ?_
  refine gw_new (q := 44) (fs := [.int (iI 0), .null, .int (iI 0)]) hc dX1_init_41 rfl cE_AL q112 q113 q77 (fun j hj => by rcases (by omega : j = 0 ∨ j = 1 ∨ j = 2) with rfl | rfl | rfl <;> rfl) (bc' := 1) (bs' := 3) (Nat.le_of_ble_eq_true rfl) (Nat.le_of_ble_eq_true rfl) (fun y hny hby => ?_)
  refine gw_dup (q := 45) hc dX1_init_44 rfl rfl ?_
  refine gw_callI (q := 48) (bc' := 1) (bs' := 3) (As := []) hc dX1_init_45 rfl q114 mw_J2_init rfl rfl (m_J2_init gup_s) ⟨Nat.le_of_ble_eq_true rfl, Nat.le_of_ble_eq_true rfl⟩ (Nat.le_of_ble_eq_true rfl) (Nat.le_of_ble_eq_true rfl) (Nat.le_of_ble_eq_true rfl) (goV fun G45 h45 => ?_)
  subst h45
  refine gw_G gup_gup ?_
  refine gw_putF (q := 51) hc dX1_init_48 rfl cE_HO 1 (by decide) q144 (fun _ h => h) rfl hnm rfl (gup_k gup_s hny) ⟨rfl, rfl⟩ rfl (Nat.le_of_ble_eq_true rfl) ?_
  refine gw_G (gup_ac (none_gup hny).1) ?_
  refine gw_aload_n (q := 52) hc dX1_init_51 rfl rfl xg_0 ?_
  refine gw_new (q := 55) (fs := [.int (iI 0), .null, .int (iI 0)]) hc dX1_init_52 rfl cE_AL q112 q113 q77 (fun j hj => by rcases (by omega : j = 0 ∨ j = 1 ∨ j = 2) with rfl | rfl | rfl <;> rfl) (bc' := 0) (bs' := 0) (Nat.le_of_ble_eq_true rfl) (Nat.le_of_ble_eq_true rfl) (fun z hnz hbz => ?_)
  refine gw_dup (q := 56) hc dX1_init_55 rfl rfl ?_
  refine gw_callI (q := 59) (bc' := 0) (bs' := 0) (As := []) hc dX1_init_56 rfl q114 mw_J2_init rfl rfl (m_J2_init gup_s) ⟨Nat.le_of_ble_eq_true rfl, Nat.le_of_ble_eq_true rfl⟩ (Nat.le_of_ble_eq_true rfl) (Nat.le_of_ble_eq_true rfl) (Nat.le_of_ble_eq_true rfl) (goV fun G56 h56 => ?_)
  subst h56
  refine gw_G gup_gup ?_
  refine gw_putF (q := 62) hc dX1_init_59 rfl cE_HO 2 (by decide) q146 (fun _ h => h) rfl hnm rfl (gup_k gup_s hnz) ⟨rfl, rfl⟩ rfl (Nat.le_of_ble_eq_true rfl) ?_
  refine gw_G (gup_ac (none_gup hnz).1) ?_
  exact gw_vret hc dX1_init_62 ⟨rfl, ⟨x, y, z, _, ⟨hnx, (none_gup (none_gup hny).2).2, (none_gup (none_gup (none_gup hnz).2).2).2⟩, ⟨Ne.symm (ne_none hG hnx), (none_gup hny).1, (none_gup hnz).1, (none_gup (none_gup hny).2).1, (none_gup (none_gup (none_gup hnz).2).2).1, (none_gup (none_gup hnz).2).1⟩, fun i h0 h5 => by rcases (by omega : i = 0 ∨ i = 1 ∨ i = 2 ∨ i = 3 ∨ i = 4 ∨ i = 5) with rfl | rfl | rfl | rfl | rfl | rfl <;> rfl, rfl⟩⟩

set_option maxHeartbeats 4000000 in
theorem m_X3_init_N {l : Launch} {D : va_G} {X : Nat → Nat} {b0 : Nat} {a : Nat} {no : Int} {G : gM} (hG : G a = some blM) : gMet l D X b0 yX3_init cX3_init 3 none (rmE 4 2 6) [.ref a, .int (iI no), .null] G (pV fun G' => ∃ y z : Nat, nmP X a no .null G G' y z) := by
  refine gm_start (own := "EnergyDiscs$Meter") (lv := [some (.ref a), some (.int (iI no)), some (.null)]) (by decide +kernel) rfl (Nat.le_of_ble_eq_true rfl) rfl (fun p_ e_ s_ m_ args_ below_ meth_ c_ hc hnm => ?_)
  refine gw_aload_n (q := 1) hc dX3_init_0 rfl rfl xg_0 ?_
  refine gw_objInit (q := 4) hc dX3_init_1 rfl q345 (Nat.le_of_ble_eq_true rfl) (Nat.le_of_ble_eq_true rfl) ?_
  refine gw_aload_n (q := 5) hc dX3_init_4 rfl rfl xg_0 ?_
  refine gw_new (q := 8) (fs := [.int (iI 0), .null, .int (iI 0)]) hc dX3_init_5 rfl cE_AL q346 q113 q77 (fun j hj => by rcases (by omega : j = 0 ∨ j = 1 ∨ j = 2) with rfl | rfl | rfl <;> rfl) (bc' := 1) (bs' := 3) (Nat.le_of_ble_eq_true rfl) (Nat.le_of_ble_eq_true rfl) (fun y hny hby => ?_)
  refine gw_dup (q := 9) hc dX3_init_8 rfl rfl ?_
  refine gw_callI (q := 12) (bc' := 1) (bs' := 3) (As := []) hc dX3_init_9 rfl q347 mw_J2_init rfl rfl (m_J2_init gup_s) ⟨Nat.le_of_ble_eq_true rfl, Nat.le_of_ble_eq_true rfl⟩ (Nat.le_of_ble_eq_true rfl) (Nat.le_of_ble_eq_true rfl) (Nat.le_of_ble_eq_true rfl) (goV fun G9 h9 => ?_)
  subst h9
  refine gw_G gup_gup ?_
  refine gw_putF (q := 15) hc dX3_init_12 rfl cE_ME 2 (by decide) q415 (fun _ h => h) rfl hnm rfl (gup_k hG hny) ⟨rfl, rfl⟩ rfl (Nat.le_of_ble_eq_true rfl) ?_
  refine gw_aload_n (q := 16) hc dX3_init_15 rfl rfl xg_0 ?_
  refine gw_new (q := 19) (fs := [.int (iI 0), .null, .int (iI 0)]) hc dX3_init_16 rfl cE_AL q346 q113 q77 (fun j hj => by rcases (by omega : j = 0 ∨ j = 1 ∨ j = 2) with rfl | rfl | rfl <;> rfl) (bc' := 0) (bs' := 0) (Nat.le_of_ble_eq_true rfl) (Nat.le_of_ble_eq_true rfl) (fun z hnz hbz => ?_)
  refine gw_dup (q := 20) hc dX3_init_19 rfl rfl ?_
  refine gw_callI (q := 23) (bc' := 0) (bs' := 0) (As := []) hc dX3_init_20 rfl q347 mw_J2_init rfl rfl (m_J2_init gup_s) ⟨Nat.le_of_ble_eq_true rfl, Nat.le_of_ble_eq_true rfl⟩ (Nat.le_of_ble_eq_true rfl) (Nat.le_of_ble_eq_true rfl) (Nat.le_of_ble_eq_true rfl) (goV fun G20 h20 => ?_)
  subst h20
  refine gw_G gup_gup ?_
  refine gw_putF (q := 26) hc dX3_init_23 rfl cE_ME 3 (by decide) q417 (fun _ h => h) rfl hnm rfl (gup_k gup_s hnz) ⟨rfl, rfl⟩ rfl (Nat.le_of_ble_eq_true rfl) ?_
  refine gw_G (gup_ac (none_gup hnz).1) ?_
  refine gw_aload_n (q := 27) hc dX3_init_26 rfl rfl xg_0 ?_
  refine gw_bipush (q := 29) hc dX3_init_27 rfl (by decide) ?_
  refine gw_put (q := 32) hc dX3_init_29 rfl cE_ME 6 (by decide) q423 (fun _ h => h) rfl gup_s ⟨rfl, rfl⟩ rfl (Nat.le_of_ble_eq_true rfl) ?_
  refine gw_G gup_gup ?_
  refine gw_aload_n (q := 33) hc dX3_init_32 rfl rfl xg_0 ?_
  refine gw_iload_n (q := 34) hc dX3_init_33 rfl rfl xg_1 ?_
  refine gw_putF (q := 37) hc dX3_init_34 rfl cE_ME 0 (by decide) q409 (fun _ h => h) rfl hnm rfl gup_s ⟨rfl, rfl⟩ rfl (Nat.le_of_ble_eq_true rfl) ?_
  refine gw_G gup_gup ?_
  refine gw_aload_n (q := 38) hc dX3_init_37 rfl rfl xg_0 ?_
  refine gw_aloadN_n (q := 39) hc dX3_init_38 rfl rfl xg_2 ?_
  refine gw_putF (q := 42) hc dX3_init_39 rfl cE_ME 1 (by decide) q412 (fun _ h => h) rfl hnm rfl gup_s ⟨rfl, rfl⟩ rfl (Nat.le_of_ble_eq_true rfl) ?_
  refine gw_G gup_gup ?_
  refine gw_aloadN_n (q := 43) hc dX3_init_42 rfl rfl xg_2 ?_
  refine gw_ifnullN (t := 57) hc dX3_init_43 (by decide) ?_
  exact gw_vret hc dX3_init_57 ⟨rfl, ⟨y, z, ⟨hny, (none_gup (none_gup hnz).2).2⟩, ⟨Ne.symm (ne_none hG hny), (none_gup hnz).1, (none_gup (none_gup hnz).2).1⟩, rfl⟩⟩

theorem mf_J2_add_7 : mF "java/util/ArrayList" ⟨"java/util/List", "add", "(Ljava/lang/Object;)Z"⟩ yJ2_add cJ2_add 2 (some FieldType.boolean) 1 := ⟨⟨by decide +kernel, by decide +kernel, by decide +kernel⟩, q352, q354, q77, q356, q351, q350, q355, q353, q235, by decide +kernel⟩
set_option maxHeartbeats 4000000 in
theorem m_X3_init {l : Launch} {D : va_G} {X : Nat → Nat} {b0 : Nat} {a p fd ar : Nat} {no mc n : Int} {fs : List Value} {el : Int → Nat} {G : gM} (hG : G a = some blM) (hp : G p = some (oE 3 fs)) (hfd : fs[2]? = some (.ref fd)) (hF : G fd = some (alO mc ar n)) (hA : alP D X G ar n el) (hn : n ≤ 40) (hel : obL G 3 n el) : gMet l D X b0 yX3_init cX3_init 3 none (rmE 7 3 70) [.ref a, .int (iI no), .ref p] G (pV fun G' => ∃ (y z : Nat) (G1 : gM), nmP X a no (.ref p) G G1 y z ∧ adP D G1 fd ar (mc + 1) n el a G') := by
  refine gm_start (own := "EnergyDiscs$Meter") (lv := [some (.ref a), some (.int (iI no)), some (.ref p)]) (by decide +kernel) rfl (Nat.le_of_ble_eq_true rfl) rfl (fun p_ e_ s_ m_ args_ below_ meth_ c_ hc hnm => ?_)
  have hpa : p ≠ a := fun z => by rw [z, hG] at hp; cases hp; cases hfd
  refine gw_aload_n (q := 1) hc dX3_init_0 rfl rfl xg_0 ?_
  refine gw_objInit (q := 4) hc dX3_init_1 rfl q345 (Nat.le_of_ble_eq_true rfl) (Nat.le_of_ble_eq_true rfl) ?_
  refine gw_aload_n (q := 5) hc dX3_init_4 rfl rfl xg_0 ?_
  refine gw_new (q := 8) (fs := [.int (iI 0), .null, .int (iI 0)]) hc dX3_init_5 rfl cE_AL q346 q113 q77 (fun j hj => by rcases (by omega : j = 0 ∨ j = 1 ∨ j = 2) with rfl | rfl | rfl <;> rfl) (bc' := 2) (bs' := 67) (Nat.le_of_ble_eq_true rfl) (Nat.le_of_ble_eq_true rfl) (fun y hny hby => ?_)
  refine gw_dup (q := 9) hc dX3_init_8 rfl rfl ?_
  refine gw_callI (q := 12) (bc' := 2) (bs' := 67) (As := []) hc dX3_init_9 rfl q347 mw_J2_init rfl rfl (m_J2_init gup_s) ⟨Nat.le_of_ble_eq_true rfl, Nat.le_of_ble_eq_true rfl⟩ (Nat.le_of_ble_eq_true rfl) (Nat.le_of_ble_eq_true rfl) (Nat.le_of_ble_eq_true rfl) (goV fun G9 h9 => ?_)
  subst h9
  refine gw_G gup_gup ?_
  refine gw_putF (q := 15) hc dX3_init_12 rfl cE_ME 2 (by decide) q415 (fun _ h => h) rfl hnm rfl (gup_k hG hny) ⟨rfl, rfl⟩ rfl (Nat.le_of_ble_eq_true rfl) ?_
  refine gw_aload_n (q := 16) hc dX3_init_15 rfl rfl xg_0 ?_
  refine gw_new (q := 19) (fs := [.int (iI 0), .null, .int (iI 0)]) hc dX3_init_16 rfl cE_AL q346 q113 q77 (fun j hj => by rcases (by omega : j = 0 ∨ j = 1 ∨ j = 2) with rfl | rfl | rfl <;> rfl) (bc' := 1) (bs' := 64) (Nat.le_of_ble_eq_true rfl) (Nat.le_of_ble_eq_true rfl) (fun z hnz hbz => ?_)
  refine gw_dup (q := 20) hc dX3_init_19 rfl rfl ?_
  refine gw_callI (q := 23) (bc' := 1) (bs' := 64) (As := []) hc dX3_init_20 rfl q347 mw_J2_init rfl rfl (m_J2_init gup_s) ⟨Nat.le_of_ble_eq_true rfl, Nat.le_of_ble_eq_true rfl⟩ (Nat.le_of_ble_eq_true rfl) (Nat.le_of_ble_eq_true rfl) (Nat.le_of_ble_eq_true rfl) (goV fun G20 h20 => ?_)
  subst h20
  refine gw_G gup_gup ?_
  refine gw_putF (q := 26) hc dX3_init_23 rfl cE_ME 3 (by decide) q417 (fun _ h => h) rfl hnm rfl (gup_k gup_s hnz) ⟨rfl, rfl⟩ rfl (Nat.le_of_ble_eq_true rfl) ?_
  refine gw_G (gup_ac (none_gup hnz).1) ?_
  refine gw_aload_n (q := 27) hc dX3_init_26 rfl rfl xg_0 ?_
  refine gw_bipush (q := 29) hc dX3_init_27 rfl (by decide) ?_
  refine gw_put (q := 32) hc dX3_init_29 rfl cE_ME 6 (by decide) q423 (fun _ h => h) rfl gup_s ⟨rfl, rfl⟩ rfl (Nat.le_of_ble_eq_true rfl) ?_
  refine gw_G gup_gup ?_
  refine gw_aload_n (q := 33) hc dX3_init_32 rfl rfl xg_0 ?_
  refine gw_iload_n (q := 34) hc dX3_init_33 rfl rfl xg_1 ?_
  refine gw_putF (q := 37) hc dX3_init_34 rfl cE_ME 0 (by decide) q409 (fun _ h => h) rfl hnm rfl gup_s ⟨rfl, rfl⟩ rfl (Nat.le_of_ble_eq_true rfl) ?_
  refine gw_G gup_gup ?_
  refine gw_aload_n (q := 38) hc dX3_init_37 rfl rfl xg_0 ?_
  refine gw_aload_n (q := 39) hc dX3_init_38 rfl rfl xg_2 ?_
  refine gw_putF (q := 42) hc dX3_init_39 rfl cE_ME 1 (by decide) q412 (fun _ h => h) rfl hnm rfl gup_s ⟨rfl, rfl⟩ rfl (Nat.le_of_ble_eq_true rfl) ?_
  refine gw_G gup_gup ?_
  refine gw_G (show _ = gup (gup (gup G y (alO 0 (X 0) 0)) z (alO 0 (X 0) 0)) a (mtO no (.ref p) y z 0 0 100 0 0 0 0 0 0 0 0 0 0) from rfl) ?_
  obtain ⟨G1, hG1⟩ : ∃ G1, G1 = gup (gup (gup G y (alO 0 (X 0) 0)) z (alO 0 (X 0) 0)) a (mtO no (.ref p) y z 0 0 100 0 0 0 0 0 0 0 0 0 0) := ⟨_, rfl⟩
  rw [← hG1]
  have hnm : nmP X a no (.ref p) G G1 y z := ⟨⟨hny, (none_gup (none_gup hnz).2).2⟩, ⟨Ne.symm (ne_none hG hny), (none_gup hnz).1, (none_gup (none_gup hnz).2).1⟩, hG1⟩
  obtain ⟨hx, hnm2⟩ := nm_ex hnm
  have hp1 := hx p _ hpa hp
  have hF1 := hx fd _ (fun z => by rw [z, hG] at hF; cases hF) hF
  have hA1 : alP D X G1 ar n el := alP_x hA (fun e he => hx ar _ (fun z => by rw [z, hG] at he; cases he) he)
  have hel1 := obL_x hel hx hnm2
  refine gw_aload_n (q := 43) hc dX3_init_42 rfl rfl xg_2 ?_
  refine gw_ifnull (q := 46) hc dX3_init_43 rfl ?_
  refine gw_aload_n (q := 47) hc dX3_init_46 rfl rfl xg_2 ?_
  refine gw_get (q := 50) hc dX3_init_47 rfl cE_ME 2 (by decide) q415 (fun _ h => h) hp1 hfd ?_
  refine gw_aload_n (q := 51) hc dX3_init_50 rfl rfl xg_0 ?_
  refine gw_callF (q := 56) (bc' := 0) (bs' := 0) (As := [_]) hc dX3_init_51 rfl cE_AL q349 mf_J2_add_7 rfl rfl (m_J2_add hnm2 cE_ME q1556 hel1 hF1 hA1 hn) (rc_o hc cE_AL hF1) ⟨Nat.le_of_ble_eq_true rfl, Nat.le_of_ble_eq_true rfl⟩ (Nat.le_of_ble_eq_true rfl) (Nat.le_of_ble_eq_true rfl) (Nat.le_of_ble_eq_true rfl) (goI fun r51 G51 h51 => ?_)
  obtain ⟨-, had⟩ := h51
  refine gw_pop (q := 57) hc dX3_init_56 rfl rfl ?_
  exact gw_vret hc dX3_init_57 ⟨rfl, ⟨y, z, G1, hnm, had⟩⟩

