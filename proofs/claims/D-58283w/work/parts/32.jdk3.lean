/-! ===== lists: add, remove, iterate ===== -/
set_option maxRecDepth 100000
/-- a list's cell and array: n elements el -/
def alP (D : va_G) (X : Nat → Nat) (G : gM) (ar : Nat) (n : Int) (el : Int → Nat) : Prop := (0 ≤ n ∧ n ≤ 1000) ∧ ((ar = X 0 ∧ n = 0) ∨ ∃ (cap : Nat) (f : Int → Option Nat), G ar = some (qA D cap f) ∧ elF f cap n el ∧ n ≤ cap ∧ cap ≤ 1000 ∧ 0 < cap)
theorem elF_fu {f : Int → Option Nat} {cap n : Int} {el : Int → Nat} {b : Nat} (h : elF f cap n el) (h0 : 0 ≤ n) : elF (fu f n (some b)) cap (n + 1) (fu el n b) := fun i a c => by
  by_cases e : i = n
  · rw [e, fu_s, fu_s, if_pos (by omega)]
  · rw [fu_n e, fu_n e, h i a c]
    by_cases k : i < n
    · rw [if_pos k, if_pos (by omega)]
    · rw [if_neg k, if_neg (by omega)]
theorem elF_x {f : Int → Option Nat} {cap cap2 n : Int} {el : Int → Nat} (h : elF f cap n el) (hc : cap2 ≤ cap) : elF f cap2 n el := fun i a c => h i a (by omega)
/-- the list behind an added element -/
def adP (D : va_G) (G : gM) (a ar : Nat) (mc n : Int) (el : Int → Nat) (b : Nat) (G' : gM) : Prop :=
  ∃ (ar' cap' : Nat) (f' : Int → Option Nat), elF f' cap' (n + 1) (fu el n b) ∧ (n + 1 ≤ cap' ∧ cap' ≤ 1000) ∧ ((ar' = ar ∧ ∃ e, G ar = some (.inl e)) ∨ G ar' = none) ∧ G' = gup (gup G ar' (qA D cap' f')) a (alO mc ar' (n + 1))
/-- the list behind a removed element -/
def rmE1 (el : Int → Nat) (i : Int) : Int → Nat := fun j => if j < i then el j else el (j + 1)
theorem gup_ac {G : gM} {a b : Nat} {x y z : va_E} (h : b ≠ a) : gup (gup (gup G a x) b y) a z = gup (gup G b y) a z := by
  rw [gup_comm (Ne.symm h), gup_gup]
theorem frm_1 {G : gM} {a b : Nat} {x y z u : va_E} (h : b ≠ a) : gup (gup (gup (gup G a x) b y) a z) b u = gup (gup G b u) a z := by
  rw [gup_ac h, gup_comm (Ne.symm h), gup_gup]
theorem frm_0 {G : gM} {a b : Nat} {x z u : va_E} (h : b ≠ a) : gup (gup (gup G a x) a z) b u = gup (gup G b u) a z := by
  rw [gup_gup, gup_comm (Ne.symm h)]

set_option maxHeartbeats 4000000 in
theorem m_J2_add_2_1 {l : Launch} {D : va_G} {X : Nat → Nat} {b0 : Nat} {a ar cap : Nat} {mc n : Int} {f : Int → Option Nat} {G : gM} {b ci N : Nat} {fs : List Value} {el : Int → Nat} {C : String} {T : u_T} {ty0 : Nat → FieldType} (hb : G b = some (.inr (ci, fs))) (hE : cE ci C T N ty0) (hcast : Cond.castable C "java/lang/Object" ∈ lw_tbl) (hel : obL G ci n el) (hG : G a = some (alO mc ar n)) (hA : G ar = some (qA D cap f)) (hf : elF f cap n el) (hn : 0 ≤ n ∧ n < cap ∧ cap ≤ 1000) : gMet l D X b0 yJ2_add_2 cJ2_add_2 4 none (rmE 5 1 64) [.ref a, .ref b, .ref ar, .int (iI n)] G (pV fun G' => adP D G a ar mc n el b G') := by
  refine gm_start (own := "java/util/ArrayList") (lv := [some (.ref a), some (.ref b), some (.ref ar), some (.int (iI n))]) (by decide +kernel) rfl (Nat.le_of_ble_eq_true rfl) rfl (fun p_ e_ s_ m_ args_ below_ meth_ c_ hc hnm => ?_)
  refine gw_iload_n (q := 1) hc dJ2_add_2_0 rfl rfl xg_3 ?_
  refine gw_aload_n (q := 2) hc dJ2_add_2_1 rfl rfl xg_2 ?_
  refine gw_alen (q := 3) hc (4) dJ2_add_2_2 rfl hA rfl ?_
  refine gw_icmp_ne  (q := 6) (t := 11) hc dJ2_add_2_3 rfl (by decide) (by omega) (by omega) (fun c3 => ?_) (fun c3 => ?_)
  · skip
    refine gw_aload_n (q := 12) hc dJ2_add_2_11 rfl rfl xg_2 ?_
    refine gw_iload_n (q := 13) hc dJ2_add_2_12 rfl rfl xg_3 ?_
    refine gw_aload_n (q := 14) hc dJ2_add_2_13 rfl rfl xg_1 ?_
    refine gw_aast (q := 15) hc dJ2_add_2_14 rfl hA (by omega) (by omega) hE hb hcast ?_
    refine gw_aload_n (q := 16) hc dJ2_add_2_15 rfl rfl xg_0 ?_
    refine gw_iload_n (q := 17) hc dJ2_add_2_16 rfl rfl xg_3 ?_
    refine gw_iconst (q := 18) hc dJ2_add_2_17 rfl ?_
    refine gw_iadd (q := 19) hc dJ2_add_2_18 rfl ?_
    refine gw_put (q := 22) hc dJ2_add_2_19 rfl cE_AL 2 (by decide) q129 (fun _ h => h) rfl ((gup_n (Ne.symm (alO_ne hG hA))).trans hG) ⟨rfl, rfl⟩ rfl (Nat.le_of_ble_eq_true rfl) ?_
    exact gw_vret hc dJ2_add_2_22 ⟨rfl, ⟨ar, cap, _, elF_fu hf hn.1, by omega, Or.inl ⟨rfl, _, hA⟩, rfl⟩⟩
  · exfalso; omega

theorem mw_J2_grow : mV "java/util/ArrayList" yJ2_grow cJ2_grow 1 (some (FieldType.array (FieldType.object "java/lang/Object"))) 0 := ⟨⟨rfl, by decide +kernel, by decide +kernel, by decide +kernel⟩, q363, qs4, q77, q364⟩
set_option maxHeartbeats 4000000 in
theorem m_J2_add_2_2 {l : Launch} {D : va_G} {X : Nat → Nat} {b0 : Nat} {a ar cap : Nat} {mc : Int} {f : Int → Option Nat} {G : gM} {b ci N : Nat} {fs : List Value} {el : Int → Nat} {C : String} {T : u_T} {ty0 : Nat → FieldType} (hb : G b = some (.inr (ci, fs))) (hE : cE ci C T N ty0) (hcast : Cond.castable C "java/lang/Object" ∈ lw_tbl) (hel : obL G ci cap el) (hG : G a = some (alO mc ar (cap : Int))) (hA : G ar = some (qA D cap f)) (hf : elF f cap cap el) (hn : 0 < cap ∧ cap ≤ 40) : gMet l D X b0 yJ2_add_2 cJ2_add_2 4 none (rmE 5 1 64) [.ref a, .ref b, .ref ar, .int (iI (cap : Int))] G (pV fun G' => adP D G a ar mc cap el b G') := by
  refine gm_start (own := "java/util/ArrayList") (lv := [some (.ref a), some (.ref b), some (.ref ar), some (.int (iI (cap : Int)))]) (by decide +kernel) rfl (Nat.le_of_ble_eq_true rfl) rfl (fun p_ e_ s_ m_ args_ below_ meth_ c_ hc hnm => ?_)
  refine gw_iload_n (q := 1) hc dJ2_add_2_0 rfl rfl xg_3 ?_
  refine gw_aload_n (q := 2) hc dJ2_add_2_1 rfl rfl xg_2 ?_
  refine gw_alen (q := 3) hc (4) dJ2_add_2_2 rfl hA rfl ?_
  refine gw_icmp_ne  (q := 6) (t := 11) hc dJ2_add_2_3 rfl (by decide) (by omega) (by omega) (fun c3 => ?_) (fun c3 => ?_)
  · exfalso; omega
  · skip
    refine gw_aload_n (q := 7) hc dJ2_add_2_6 rfl rfl xg_0 ?_
    refine gw_callV (q := 10) (bc' := 0) (bs' := 0) (As := []) hc dJ2_add_2_7 rfl q361 mw_J2_grow (rc_o hc cE_AL hG) rfl rfl (m_J2_grow hG hA hE hcast hf hel hn) ⟨Nat.le_of_ble_eq_true rfl, Nat.le_of_ble_eq_true rfl⟩ (Nat.le_of_ble_eq_true rfl) (Nat.le_of_ble_eq_true rfl) (Nat.le_of_ble_eq_true rfl) (goA fun r7 G7 h7 => ?_)
    obtain ⟨hnr, cap2, f2, hf2, hb2, rfl⟩ := h7
    have hra : r7 ≠ a := fun z => by rw [z, hG] at hnr; cases hnr
    have hrb : b ≠ r7 := ne_none hb hnr
    have hA2 : gup (gup G r7 (qA D cap2 f2)) a (alO mc r7 (cap : Int)) r7 = some (qA D cap2 f2) := (gup_n hra).trans gup_s
    refine gw_astore_n (q := 11) hc dJ2_add_2_10 rfl rfl xs_2 (by decide) (n2p xg_1 rfl) ?_
    refine gw_aload_n (q := 12) hc dJ2_add_2_11 rfl rfl xg_2 ?_
    refine gw_iload_n (q := 13) hc dJ2_add_2_12 rfl rfl xg_3 ?_
    refine gw_aload_n (q := 14) hc dJ2_add_2_13 rfl rfl xg_1 ?_
    obtain ⟨fs2, hb2x⟩ : ∃ fs2, gup (gup G r7 (qA D cap2 f2)) a (alO mc r7 (cap : Int)) b = some (.inr (ci, fs2)) := by
        by_cases e : b = a
        · rw [e] at hb; rw [hG] at hb; rw [e, gup_s]; cases hb; exact ⟨_, rfl⟩
        · exact ⟨fs, by rw [gup_n e, gup_n hrb]; exact hb⟩
    refine gw_aast (q := 15) hc dJ2_add_2_14 rfl hA2 (by omega) (by omega) hE hb2x hcast ?_
    refine gw_aload_n (q := 16) hc dJ2_add_2_15 rfl rfl xg_0 ?_
    refine gw_iload_n (q := 17) hc dJ2_add_2_16 rfl rfl xg_3 ?_
    refine gw_iconst (q := 18) hc dJ2_add_2_17 rfl ?_
    refine gw_iadd (q := 19) hc dJ2_add_2_18 rfl ?_
    refine gw_put (q := 22) hc dJ2_add_2_19 rfl cE_AL 2 (by decide) q129 (fun _ h => h) rfl ((gup_n (Ne.symm hra)).trans gup_s) ⟨rfl, rfl⟩ rfl (Nat.le_of_ble_eq_true rfl) ?_
    exact gw_vret hc dJ2_add_2_22 ⟨rfl, ⟨r7, cap2, _, elF_fu hf2 (by omega), by omega, Or.inr hnr, by first | (rw [gup_ac hra, gup_gup]; done) | (rw [gup_ac hra, gup_gup]; rfl)⟩⟩

set_option maxHeartbeats 4000000 in
theorem m_J2_add_2_0 {l : Launch} {D : va_G} {X : Nat → Nat} {b0 : Nat} {a : Nat} {mc : Int} {G : gM} {b ci N : Nat} {fs : List Value} {el : Int → Nat} {C : String} {T : u_T} {ty0 : Nat → FieldType} (hb : G b = some (.inr (ci, fs))) (hE : cE ci C T N ty0) (hcast : Cond.castable C "java/lang/Object" ∈ lw_tbl) (hel : obL G ci 0 el) (hG : G a = some (alO mc (X 0) 0)) : gMet l D X b0 yJ2_add_2 cJ2_add_2 4 none (rmE 5 1 64) [.ref a, .ref b, .ref (X 0), .int (iI 0)] G (pV fun G' => adP D G a (X 0) mc 0 el b G') := by
  refine gm_start (own := "java/util/ArrayList") (lv := [some (.ref a), some (.ref b), some (.ref (X 0)), some (.int (iI 0))]) (by decide +kernel) rfl (Nat.le_of_ble_eq_true rfl) rfl (fun p_ e_ s_ m_ args_ below_ meth_ c_ hc hnm => ?_)
  refine gw_iload_n (q := 1) hc dJ2_add_2_0 rfl rfl xg_3 ?_
  refine gw_aload_n (q := 2) hc dJ2_add_2_1 rfl rfl xg_2 ?_
  refine gw_tlen (q := 3) hc dJ2_add_2_2 rfl hc.2.2.2.2.2.2.2.2.2.1.2.2.1 ?_
  refine gw_icmp_ne  (q := 6) (t := 11) hc dJ2_add_2_3 rfl (by decide) (by omega) (by omega) (fun c3 => ?_) (fun c3 => ?_)
  · exfalso; omega
  · skip
    refine gw_aload_n (q := 7) hc dJ2_add_2_6 rfl rfl xg_0 ?_
    refine gw_callV (q := 10) (bc' := 0) (bs' := 54) (As := []) hc dJ2_add_2_7 rfl q361 mw_J2_grow (rc_o hc cE_AL hG) rfl rfl (m_J2_grow_0 hG) ⟨Nat.le_of_ble_eq_true rfl, Nat.le_of_ble_eq_true rfl⟩ (Nat.le_of_ble_eq_true rfl) (Nat.le_of_ble_eq_true rfl) (Nat.le_of_ble_eq_true rfl) (goA fun r7 G7 h7 => ?_)
    obtain ⟨hnr, rfl⟩ := h7
    have hra : r7 ≠ a := fun z => by rw [z, hG] at hnr; cases hnr
    have hrb : b ≠ r7 := ne_none hb hnr
    have hA2 : gup (gup G r7 (qA D 10 (fun _ => none))) a (alO mc r7 0) r7 = some (qA D 10 (fun _ => none)) := (gup_n hra).trans gup_s
    refine gw_astore_n (q := 11) hc dJ2_add_2_10 rfl rfl xs_2 (by decide) (n2p xg_1 rfl) ?_
    refine gw_aload_n (q := 12) hc dJ2_add_2_11 rfl rfl xg_2 ?_
    refine gw_iload_n (q := 13) hc dJ2_add_2_12 rfl rfl xg_3 ?_
    refine gw_aload_n (q := 14) hc dJ2_add_2_13 rfl rfl xg_1 ?_
    obtain ⟨fs2, hb2x⟩ : ∃ fs2, gup (gup G r7 (qA D 10 (fun _ => none))) a (alO mc r7 0) b = some (.inr (ci, fs2)) := by
        by_cases e : b = a
        · rw [e] at hb; rw [hG] at hb; rw [e, gup_s]; cases hb; exact ⟨_, rfl⟩
        · exact ⟨fs, by rw [gup_n e, gup_n hrb]; exact hb⟩
    refine gw_aast (q := 15) hc dJ2_add_2_14 rfl hA2 (by omega) (by omega) hE hb2x hcast ?_
    refine gw_aload_n (q := 16) hc dJ2_add_2_15 rfl rfl xg_0 ?_
    refine gw_iload_n (q := 17) hc dJ2_add_2_16 rfl rfl xg_3 ?_
    refine gw_iconst (q := 18) hc dJ2_add_2_17 rfl ?_
    refine gw_iadd (q := 19) hc dJ2_add_2_18 rfl ?_
    refine gw_put (q := 22) hc dJ2_add_2_19 rfl cE_AL 2 (by decide) q129 (fun _ h => h) rfl ((gup_n (Ne.symm hra)).trans gup_s) ⟨rfl, rfl⟩ rfl (Nat.le_of_ble_eq_true rfl) ?_
    exact gw_vret hc dJ2_add_2_22 ⟨rfl, ⟨r7, 10, _, elF_fu (n := 0) (el := el) (fun i h0 h1 => by rw [if_neg (by omega)]) (by omega), by omega, Or.inr hnr, by first | (rw [gup_ac hra, gup_gup]; done) | (rw [gup_ac hra, gup_gup]; rfl)⟩⟩

theorem m_J2_add_2 {l : Launch} {D : va_G} {X : Nat → Nat} {b0 : Nat} {a ar : Nat} {mc n : Int} {G : gM} {b ci N : Nat} {fs : List Value} {el : Int → Nat} {C : String} {T : u_T} {ty0 : Nat → FieldType} (hb : G b = some (.inr (ci, fs))) (hE : cE ci C T N ty0) (hcast : Cond.castable C "java/lang/Object" ∈ lw_tbl) (hel : obL G ci n el) (hG : G a = some (alO mc ar n)) (hA : alP D X G ar n el) (hn : n ≤ 40) : gMet l D X b0 yJ2_add_2 cJ2_add_2 4 none (rmE 5 1 64) [.ref a, .ref b, .ref ar, .int (iI n)] G (pV fun G' => adP D G a ar mc n el b G') := by
  obtain ⟨h0, ⟨rfl, rfl⟩ | ⟨cap, f, hA, hf, hc⟩⟩ := hA
  · exact m_J2_add_2_0 hb hE hcast hel hG
  · by_cases h : n < cap
    · exact m_J2_add_2_1 hb hE hcast hel hG hA hf (by omega)
    · obtain rfl : n = cap := by omega
      exact m_J2_add_2_2 hb hE hcast hel hG hA hf (by omega)
theorem ob_up {G : gM} {a b ci ca : Nat} {f0 fs x : List Value} (hG : G a = some (.inr (ca, f0))) (hb : G b = some (.inr (ci, fs))) : ∃ fs2, gup G a (.inr (ca, x)) b = some (.inr (ci, fs2)) := by
  by_cases e : b = a
  · subst e; rw [hG] at hb; cases hb; exact ⟨_, gup_s⟩
  · exact ⟨fs, by rw [gup_n e]; exact hb⟩
theorem obL_up {G : gM} {a ci ca : Nat} {n : Int} {el : Int → Nat} {f0 x : List Value} (hG : G a = some (.inr (ca, f0))) (h : obL G ci n el) : obL (gup G a (.inr (ca, x))) ci n el := fun i h0 h1 => by
  obtain ⟨fs, hb⟩ := h i h0 h1
  exact ob_up hG hb
theorem alP_up {D : va_G} {X : Nat → Nat} {G : gM} {a ar : Nat} {n : Int} {el : Int → Nat} {ca : Nat} {f0 : List Value} {x : va_E} (hG : G a = some (.inr (ca, f0))) (h : alP D X G ar n el) : alP D X (gup G a x) ar n el := by
  obtain ⟨h0, h1 | ⟨cap, f, hA, h2⟩⟩ := h
  · exact ⟨h0, Or.inl h1⟩
  · exact ⟨h0, Or.inr ⟨cap, f, by rw [gup_n (fun z => by rw [z, hG] at hA; cases hA)]; exact hA, h2⟩⟩
theorem adP_up {D : va_G} {G G' : gM} {a ar : Nat} {mc n : Int} {el : Int → Nat} {b ca : Nat} {f0 x : List Value} (hG : G a = some (.inr (ca, f0))) (h : adP D (gup G a (.inr (ca, x))) a ar mc n el b G') : adP D G a ar mc n el b G' := by
  obtain ⟨ar', cap', f', h1, h2, h3, h4⟩ := h
  have hne : ar' ≠ a := by
    rintro rfl
    rcases h3 with ⟨rfl, e, he⟩ | h3
    · rw [gup_s] at he; cases he
    · rw [gup_s] at h3; cases h3
  refine ⟨ar', cap', f', h1, h2, ?_, by rw [h4, gup_ac hne]⟩
  rcases h3 with ⟨rfl, e, he⟩ | h3
  · exact Or.inl ⟨rfl, e, by rw [gup_n hne] at he; exact he⟩
  · exact Or.inr (by rw [gup_n hne] at h3; exact h3)
theorem mw_J2_add_2 : mV "java/util/ArrayList" yJ2_add_2 cJ2_add_2 4 none 3 := ⟨⟨rfl, by decide +kernel, by decide +kernel, by decide +kernel⟩, q359, qs3, q77, q360⟩
set_option maxHeartbeats 4000000 in
theorem m_J2_add {l : Launch} {D : va_G} {X : Nat → Nat} {b0 : Nat} {a ar : Nat} {mc n : Int} {G : gM} {b ci N : Nat} {fs : List Value} {el : Int → Nat} {C : String} {T : u_T} {ty0 : Nat → FieldType} (hb : G b = some (.inr (ci, fs))) (hE : cE ci C T N ty0) (hcast : Cond.castable C "java/lang/Object" ∈ lw_tbl) (hel : obL G ci n el) (hG : G a = some (alO mc ar n)) (hA : alP D X G ar n el) (hn : n ≤ 40) : gMet l D X b0 yJ2_add cJ2_add 2 (some FieldType.boolean) (rmE 6 1 64) [.ref a, .ref b] G (pI fun r G' => r = 1 ∧ adP D G a ar (mc + 1) n el b G') := by
  refine gm_start (own := "java/util/ArrayList") (lv := [some (.ref a), some (.ref b)]) (by decide +kernel) rfl (Nat.le_of_ble_eq_true rfl) rfl (fun p_ e_ s_ m_ args_ below_ meth_ c_ hc hnm => ?_)
  refine gw_aload_n (q := 1) hc dJ2_add_0 rfl rfl xg_0 ?_
  refine gw_dup (q := 2) hc dJ2_add_1 rfl rfl ?_
  refine gw_get (q := 5) hc dJ2_add_2 rfl cE_AL 0 (by decide) q133 (fun _ h => u_same (hc.2.2.2.2.1 _ q132) _ h) hG rfl ?_
  refine gw_iconst (q := 6) hc dJ2_add_5 rfl ?_
  refine gw_iadd (q := 7) hc dJ2_add_6 rfl ?_
  refine gw_put (q := 10) hc dJ2_add_7 rfl cE_AL 0 (by decide) q133 (fun _ h => u_same (hc.2.2.2.2.1 _ q132) _ h) rfl hG ⟨rfl, rfl⟩ rfl (Nat.le_of_ble_eq_true rfl) ?_
  have hA2 := alP_up (x := alO (mc + 1) ar n) hG hA
  have hel2 := obL_up (x := [.int (iI (mc + 1)), .ref ar, .int (iI n)]) hG hel
  obtain ⟨fs2, hb2⟩ := ob_up (x := [.int (iI (mc + 1)), .ref ar, .int (iI n)]) hG hb
  refine gw_aload_n (q := 11) hc dJ2_add_10 rfl rfl xg_0 ?_
  refine gw_aload_n (q := 12) hc dJ2_add_11 rfl rfl xg_1 ?_
  refine gw_aload_n (q := 13) hc dJ2_add_12 rfl rfl xg_0 ?_
  refine gw_get (q := 16) hc dJ2_add_13 rfl cE_AL 1 (by decide) q126 (fun _ h => h) gup_s rfl ?_
  refine gw_aload_n (q := 17) hc dJ2_add_16 rfl rfl xg_0 ?_
  refine gw_get (q := 20) hc dJ2_add_17 rfl cE_AL 2 (by decide) q129 (fun _ h => h) gup_s rfl ?_
  refine gw_callV (q := 23) (bc' := 0) (bs' := 0) (As := [_, _, _]) hc dJ2_add_20 rfl q357 mw_J2_add_2 (rc_o hc cE_AL gup_s) rfl rfl (m_J2_add_2 hb2 hE hcast hel2 gup_s hA2 hn) ⟨Nat.le_of_ble_eq_true rfl, Nat.le_of_ble_eq_true rfl⟩ (Nat.le_of_ble_eq_true rfl) (Nat.le_of_ble_eq_true rfl) (Nat.le_of_ble_eq_true rfl) (goV fun G20 h20 => ?_)
  have hP := adP_up hG h20
  refine gw_iconst (q := 24) hc dJ2_add_23 rfl ?_
  exact gw_zret hc (by first | exact Or.inl rfl | exact Or.inr rfl | omega) dJ2_add_24 ⟨_, rfl, ⟨rfl, hP⟩⟩

theorem alP_get {D : va_G} {X : Nat → Nat} {G : gM} {ar : Nat} {n i : Int} {el : Int → Nat} (h : alP D X G ar n el) (h0 : 0 ≤ i) (h1 : i < n) : ∃ (cap : Nat) (f : Int → Option Nat), G ar = some (qA D cap f) ∧ elF f cap n el ∧ (n ≤ cap ∧ cap < 2000000) ∧ f i = some (el i) := by
  obtain ⟨h2, ⟨-, h3⟩ | ⟨cap, f, hA, hf, hc⟩⟩ := h
  · omega
  · exact ⟨cap, f, hA, hf, by omega, by rw [hf i h0 (by omega), if_pos h1]⟩
set_option maxHeartbeats 4000000 in
theorem m_J2_fastRemove {l : Launch} {D : va_G} {X : Nat → Nat} {b0 : Nat} {a ar cap : Nat} {mc n i : Int} {f : Int → Option Nat} {G : gM} {ci N : Nat} {el : Int → Nat} {C : String} {T : u_T} {ty0 : Nat → FieldType} (hE : cE ci C T N ty0) (hcast : Cond.castable C "java/lang/Object" ∈ lw_tbl) (hel : obL G ci n el) (hG : G a = some (alO mc ar n)) (hA : G ar = some (qA D cap f)) (hf : elF f cap n el) (hn : n ≤ cap ∧ cap ≤ 1000) (hi : 0 ≤ i ∧ i < n) : gMet l D X b0 yJ2_fastRemove cJ2_fastRemove 4 none (rmE 1 0 0) [.ref a, .ref ar, .int (iI i)] G (pV fun G' => ∃ f2 : Int → Option Nat, elF f2 cap (n - 1) (rmE1 el i) ∧ G' = gup (gup G ar (qA D cap f2)) a (alO (mc + 1) ar (n - 1))) := by
  refine gm_start (own := "java/util/ArrayList") (lv := [some (.ref a), some (.ref ar), some (.int (iI i)), none]) (by decide +kernel) rfl (Nat.le_of_ble_eq_true rfl) rfl (fun p_ e_ s_ m_ args_ below_ meth_ c_ hc hnm => ?_)
  refine gw_aload_n (q := 1) hc dJ2_fastRemove_0 rfl rfl xg_0 ?_
  refine gw_dup (q := 2) hc dJ2_fastRemove_1 rfl rfl ?_
  refine gw_get (q := 5) hc dJ2_fastRemove_2 rfl cE_AL 0 (by decide) q133 (fun _ h => u_same (hc.2.2.2.2.1 _ q132) _ h) hG rfl ?_
  refine gw_iconst (q := 6) hc dJ2_fastRemove_5 rfl ?_
  refine gw_iadd (q := 7) hc dJ2_fastRemove_6 rfl ?_
  refine gw_put (q := 10) hc dJ2_fastRemove_7 rfl cE_AL 0 (by decide) q133 (fun _ h => u_same (hc.2.2.2.2.1 _ q132) _ h) rfl hG ⟨rfl, rfl⟩ rfl (Nat.le_of_ble_eq_true rfl) ?_
  refine gw_aload_n (q := 11) hc dJ2_fastRemove_10 rfl rfl xg_0 ?_
  refine gw_get (q := 14) hc dJ2_fastRemove_11 rfl cE_AL 2 (by decide) q129 (fun _ h => h) gup_s rfl ?_
  refine gw_iconst (q := 15) hc dJ2_fastRemove_14 rfl ?_
  refine gw_isub (q := 16) hc dJ2_fastRemove_15 rfl ?_
  refine gw_dup (q := 17) hc dJ2_fastRemove_16 rfl rfl ?_
  refine gw_istore_n (q := 18) hc dJ2_fastRemove_17 rfl rfl xs_3 (by decide) (n2p xg_2 rfl) ?_
  refine gw_iload_n (q := 19) hc dJ2_fastRemove_18 rfl rfl xg_2 ?_
  refine gw_icmp_le  (q := 22) (t := 34) hc dJ2_fastRemove_19 rfl (by decide) (by omega) (by omega) (fun c19 => ?_) (fun c19 => ?_)
  · skip
    refine gw_aload_n (q := 35) hc dJ2_fastRemove_34 rfl rfl xg_1 ?_
    refine gw_aload_n (q := 36) hc dJ2_fastRemove_35 rfl rfl xg_0 ?_
    refine gw_iload_n (q := 37) hc dJ2_fastRemove_36 rfl rfl xg_3 ?_
    refine gw_dup_x1 (q := 38) hc dJ2_fastRemove_37 rfl rfl rfl ?_
    refine gw_put (q := 41) hc dJ2_fastRemove_38 rfl cE_AL 2 (by decide) q129 (fun _ h => h) rfl gup_s ⟨rfl, rfl⟩ rfl (Nat.le_of_ble_eq_true rfl) ?_
    refine gw_null (q := 42) hc dJ2_fastRemove_41 rfl ?_
    refine gw_aastN (q := 43) hc dJ2_fastRemove_42 rfl ((gup_n (alO_ne hG hA)).trans ((gup_n (alO_ne hG hA)).trans hA)) (by omega) (by omega) ?_
    exact gw_vret hc dJ2_fastRemove_43 ⟨rfl, ⟨fu f (n - 1) none, fun j h0 h1 => by
      by_cases e : j = n - 1
      · rw [e, fu_s, if_neg (by omega)]
      · rw [fu_n e]
        · rw [hf _ (by omega) (by omega)]
          by_cases k2 : j < n
          · rw [if_pos k2, if_pos (by omega), rmE1, if_pos (by omega)]
          · rw [if_neg k2, if_neg (by omega)], frm_0 (alO_ne hG hA)⟩⟩
  · skip
    refine gw_aload_n (q := 23) hc dJ2_fastRemove_22 rfl rfl xg_1 ?_
    refine gw_iload_n (q := 24) hc dJ2_fastRemove_23 rfl rfl xg_2 ?_
    refine gw_iconst (q := 25) hc dJ2_fastRemove_24 rfl ?_
    refine gw_iadd (q := 26) hc dJ2_fastRemove_25 rfl ?_
    refine gw_aload_n (q := 27) hc dJ2_fastRemove_26 rfl rfl xg_1 ?_
    refine gw_iload_n (q := 28) hc dJ2_fastRemove_27 rfl rfl xg_2 ?_
    refine gw_iload_n (q := 29) hc dJ2_fastRemove_28 rfl rfl xg_3 ?_
    refine gw_iload_n (q := 30) hc dJ2_fastRemove_29 rfl rfl xg_2 ?_
    refine gw_isub (q := 31) hc dJ2_fastRemove_30 rfl ?_
    refine gw_copyq (q := 34) hc dJ2_fastRemove_31 rfl q260 q262 q261 q85 ((gup_n (alO_ne hG hA)).trans hA) ((gup_n (alO_ne hG hA)).trans hA) ⟨by omega, by omega⟩ ⟨by omega, by omega⟩ (by omega) ⟨by omega, by omega⟩ hcast (fun j h0 h1 y hy => by
    rw [hf (i + 1 + j) (by omega) (by omega)] at hy
    split at hy
    · cases hy
      obtain ⟨fs, he⟩ := hel (i + 1 + j) (by omega) (by omega)
      obtain ⟨fs2, he2⟩ := ob_up (x := [.int (iI (mc + 1)), .ref ar, .int (iI n)]) hG he
      exact rc_o hc hE he2
    · cases hy) (Nat.le_of_ble_eq_true rfl) (Nat.le_of_ble_eq_true rfl) ?_
    refine gw_aload_n (q := 35) hc dJ2_fastRemove_34 rfl rfl xg_1 ?_
    refine gw_aload_n (q := 36) hc dJ2_fastRemove_35 rfl rfl xg_0 ?_
    refine gw_iload_n (q := 37) hc dJ2_fastRemove_36 rfl rfl xg_3 ?_
    refine gw_dup_x1 (q := 38) hc dJ2_fastRemove_37 rfl rfl rfl ?_
    refine gw_put (q := 41) hc dJ2_fastRemove_38 rfl cE_AL 2 (by decide) q129 (fun _ h => h) rfl ((gup_n (Ne.symm (alO_ne hG hA))).trans gup_s) ⟨rfl, rfl⟩ rfl (Nat.le_of_ble_eq_true rfl) ?_
    refine gw_null (q := 42) hc dJ2_fastRemove_41 rfl ?_
    refine gw_aastN (q := 43) hc dJ2_fastRemove_42 rfl ((gup_n (alO_ne hG hA)).trans gup_s) (by omega) (by omega) ?_
    exact gw_vret hc dJ2_fastRemove_43 ⟨rfl, ⟨fu (cpF f f (i + 1) i (n - 1 - i)) (n - 1) none, fun j h0 h1 => by
      by_cases e : j = n - 1
      · rw [e, fu_s, if_neg (by omega)]
      · rw [fu_n e]
        show (if i ≤ j ∧ j < i + (n - 1 - i) then f (i + 1 + (j - i)) else f j) = _
        by_cases k : i ≤ j ∧ j < i + (n - 1 - i)
        · rw [if_pos k, hf _ (by omega) (by omega), if_pos (by omega), if_pos (by omega), rmE1, if_neg (by omega), show i + 1 + (j - i) = j + 1 by omega]
        · rw [if_neg k, hf _ (by omega) (by omega)]
          by_cases k2 : j < n
          · rw [if_pos k2, if_pos (by omega), rmE1, if_pos (by omega)]
          · rw [if_neg k2, if_neg (by omega)], frm_1 (alO_ne hG hA)⟩⟩

theorem mw_J2_fastRemove : mV "java/util/ArrayList" yJ2_fastRemove cJ2_fastRemove 4 none 2 := ⟨⟨rfl, by decide +kernel, by decide +kernel, by decide +kernel⟩, q258, qs2, q77, q259⟩
set_option maxHeartbeats 4000000 in
theorem m_J2_remove {l : Launch} {D : va_G} {X : Nat → Nat} {b0 : Nat} {a ar : Nat} {mc n i : Int} {G : gM} {ci N : Nat} {el : Int → Nat} {C : String} {T : u_T} {ty0 : Nat → FieldType} (hE : cE ci C T N ty0) (hcast : Cond.castable C "java/lang/Object" ∈ lw_tbl) (hel : obL G ci n el) (hG : G a = some (alO mc ar n)) {cap : Nat} {f : Int → Option Nat} (hA : G ar = some (qA D cap f)) (hf : elF f cap n el) (hn : n ≤ cap ∧ cap ≤ 1000) (hi : 0 ≤ i ∧ i < n) : gMet l D X b0 yJ2_remove cJ2_remove 4 (some (FieldType.object "java/lang/Object")) (rmE 2 0 0) [.ref a, .int (iI i)] G (pA fun r G' => r = el i ∧ ∃ f2 : Int → Option Nat, elF f2 cap (n - 1) (rmE1 el i) ∧ G' = gup (gup G ar (qA D cap f2)) a (alO (mc + 1) ar (n - 1))) := by
  refine gm_start (own := "java/util/ArrayList") (lv := [some (.ref a), some (.int (iI i)), none, none]) (by decide +kernel) rfl (Nat.le_of_ble_eq_true rfl) rfl (fun p_ e_ s_ m_ args_ below_ meth_ c_ hc hnm => ?_)
  refine gw_iload_n (q := 1) hc dJ2_remove_0 rfl rfl xg_1 ?_
  refine gw_aload_n (q := 2) hc dJ2_remove_1 rfl rfl xg_0 ?_
  refine gw_get (q := 5) hc dJ2_remove_2 rfl cE_AL 2 (by decide) q129 (fun _ h => h) hG rfl ?_
  refine gw_callS (q := 8) (bc' := 0) (bs' := 0) (As := [_, _]) hc dJ2_remove_5 rfl q250 mw_J7_checkIndex rfl rfl (m_J7_checkIndex (by omega) (by omega)) ⟨Nat.le_of_ble_eq_true rfl, Nat.le_of_ble_eq_true rfl⟩ (Nat.le_of_ble_eq_true rfl) (Nat.le_of_ble_eq_true rfl) (Nat.le_of_ble_eq_true rfl) (goI fun r5 G5 h5 => ?_)
  obtain ⟨-, rfl⟩ := h5
  refine gw_pop (q := 9) hc dJ2_remove_8 rfl rfl ?_
  refine gw_aload_n (q := 10) hc dJ2_remove_9 rfl rfl xg_0 ?_
  refine gw_get (q := 13) hc dJ2_remove_10 rfl cE_AL 1 (by decide) q126 (fun _ h => h) hG rfl ?_
  refine gw_astore_n (q := 14) hc dJ2_remove_13 rfl rfl xs_2 (by decide) (n2p xg_1 rfl) ?_
  refine gw_aload_n (q := 15) hc dJ2_remove_14 rfl rfl xg_2 ?_
  refine gw_iload_n (q := 16) hc dJ2_remove_15 rfl rfl xg_1 ?_
  refine gw_aald (q := 17) hc dJ2_remove_16 rfl hA (by omega) (by omega) ?_
  rw [hf i (by omega) (by omega), if_pos hi.2]
  refine gw_astore_n (q := 18) hc dJ2_remove_17 rfl rfl xs_3 (by decide) (n2p xg_2 rfl) ?_
  refine gw_aload_n (q := 19) hc dJ2_remove_18 rfl rfl xg_0 ?_
  refine gw_aload_n (q := 20) hc dJ2_remove_19 rfl rfl xg_2 ?_
  refine gw_iload_n (q := 21) hc dJ2_remove_20 rfl rfl xg_1 ?_
  refine gw_callV (q := 24) (bc' := 0) (bs' := 0) (As := [_, _]) hc dJ2_remove_21 rfl q256 mw_J2_fastRemove (rc_o hc cE_AL hG) rfl rfl (m_J2_fastRemove hE hcast hel hG hA hf hn hi) ⟨Nat.le_of_ble_eq_true rfl, Nat.le_of_ble_eq_true rfl⟩ (Nat.le_of_ble_eq_true rfl) (Nat.le_of_ble_eq_true rfl) (Nat.le_of_ble_eq_true rfl) (goV fun G21 h21 => ?_)
  refine gw_aload_n (q := 25) hc dJ2_remove_24 rfl rfl xg_3 ?_
  exact gw_aret hc rfl (by first | exact Or.inl ⟨_, rfl⟩ | exact Or.inr ⟨_, rfl⟩) dJ2_remove_25 ⟨_, rfl, ⟨rfl, h21⟩⟩

set_option maxHeartbeats 4000000 in
theorem m_J9_init {l : Launch} {D : va_G} {X : Nat → Nat} {b0 : Nat} {t a ar : Nat} {mc n : Int} {G : gM} (hG : G a = some (alO mc ar n)) (hT : G t = some (oE 9 [.int (iI 0), .int (iI 0), .int (iI 0), .null])) : gMet l D X b0 yJ9_init cJ9_init 2 none (rmE 1 0 0) [.ref t, .ref a] G (eV (gup G t (oE 9 [.int (iI 0), .int (iI (-1)), .int (iI mc), .ref a]))) := by
  refine gm_start (own := "java/util/ArrayList$Itr") (lv := [some (.ref t), some (.ref a)]) (by decide +kernel) rfl (Nat.le_of_ble_eq_true rfl) rfl (fun p_ e_ s_ m_ args_ below_ meth_ c_ hc hnm => ?_)
  have hne : a ≠ t := fun z => by rw [z, hT] at hG; cases hG
  refine gw_aload_n (q := 1) hc dJ9_init_0 rfl rfl xg_0 ?_
  refine gw_aload_n (q := 2) hc dJ9_init_1 rfl rfl xg_1 ?_
  refine gw_putF (q := 5) hc dJ9_init_2 rfl cE_IT 3 (by decide) q288 (fun _ h => h) rfl hnm rfl hT ⟨rfl, rfl⟩ rfl (Nat.le_of_ble_eq_true rfl) ?_
  refine gw_aload_n (q := 6) hc dJ9_init_5 rfl rfl xg_0 ?_
  refine gw_objInit (q := 9) hc dJ9_init_6 rfl q284 (Nat.le_of_ble_eq_true rfl) (Nat.le_of_ble_eq_true rfl) ?_
  refine gw_aload_n (q := 10) hc dJ9_init_9 rfl rfl xg_0 ?_
  refine gw_iconst (q := 11) hc dJ9_init_10 rfl ?_
  refine gw_put (q := 14) hc dJ9_init_11 rfl cE_IT 1 (by decide) q286 (fun _ h => h) rfl gup_s ⟨rfl, rfl⟩ rfl (Nat.le_of_ble_eq_true rfl) ?_
  refine gw_G gup_gup ?_
  refine gw_aload_n (q := 15) hc dJ9_init_14 rfl rfl xg_0 ?_
  refine gw_aload_n (q := 16) hc dJ9_init_15 rfl rfl xg_0 ?_
  refine gw_get (q := 19) hc dJ9_init_16 rfl cE_IT 3 (by decide) q288 (fun _ h => h) gup_s rfl ?_
  refine gw_get (q := 22) hc dJ9_init_19 rfl cE_AL 0 (by decide) q131 (fun _ h => u_same (hc.2.2.2.2.1 _ q132) _ h) ((gup_n hne).trans hG) rfl ?_
  refine gw_put (q := 25) hc dJ9_init_22 rfl cE_IT 2 (by decide) q287 (fun _ h => h) rfl gup_s ⟨rfl, rfl⟩ rfl (Nat.le_of_ble_eq_true rfl) ?_
  refine gw_G gup_gup ?_
  exact gw_vret hc dJ9_init_25 ⟨rfl, rfl⟩

theorem mw_J9_init : mI yJ9_init cJ9_init 2 1 := ⟨⟨rfl, by decide +kernel, by decide +kernel, by decide +kernel⟩, q282, q86, q283⟩
set_option maxHeartbeats 4000000 in
theorem m_J2_iterator {l : Launch} {D : va_G} {X : Nat → Nat} {b0 : Nat} {a ar : Nat} {mc n : Int} {G : gM} (hG : G a = some (alO mc ar n)) : gMet l D X b0 yJ2_iterator cJ2_iterator 1 (some (FieldType.object "java/util/Iterator")) (rmE 2 1 4) [.ref a] G (pA fun r G' => G r = none ∧ G' = gup G r (oE 9 [.int (iI 0), .int (iI (-1)), .int (iI mc), .ref a])) := by
  refine gm_start (own := "java/util/ArrayList") (lv := [some (.ref a)]) (by decide +kernel) rfl (Nat.le_of_ble_eq_true rfl) rfl (fun p_ e_ s_ m_ args_ below_ meth_ c_ hc hnm => ?_)
  refine gw_new (q := 3) (fs := [.int (iI 0), .int (iI 0), .int (iI 0), .null]) hc dJ2_iterator_0 rfl cE_IT q279 q280 q86 (fun j hj => by rcases (by omega : j = 0 ∨ j = 1 ∨ j = 2 ∨ j = 3) with rfl | rfl | rfl | rfl <;> rfl) (bc' := 0) (bs' := 0) (Nat.le_of_ble_eq_true rfl) (Nat.le_of_ble_eq_true rfl) (fun x hnx hbx => ?_)
  refine gw_dup (q := 4) hc dJ2_iterator_3 rfl rfl ?_
  refine gw_aload_n (q := 5) hc dJ2_iterator_4 rfl rfl xg_0 ?_
  refine gw_callI (q := 8) (bc' := 0) (bs' := 0) (As := [_]) hc dJ2_iterator_5 rfl q281 mw_J9_init rfl rfl (m_J9_init (gup_k hG hnx) gup_s) ⟨Nat.le_of_ble_eq_true rfl, Nat.le_of_ble_eq_true rfl⟩ (Nat.le_of_ble_eq_true rfl) (Nat.le_of_ble_eq_true rfl) (Nat.le_of_ble_eq_true rfl) (goV fun G5 h5 => ?_)
  subst h5
  refine gw_G gup_gup ?_
  exact gw_aret hc rfl (by first | exact Or.inl ⟨_, rfl⟩ | exact Or.inr ⟨_, rfl⟩) dJ2_iterator_8 ⟨_, rfl, ⟨hnx, rfl⟩⟩

set_option maxHeartbeats 4000000 in
theorem m_J9_hasNext {l : Launch} {D : va_G} {X : Nat → Nat} {b0 : Nat} {t a ar : Nat} {mc n cu lr : Int} {G : gM} (hG : G a = some (alO mc ar n)) (hT : G t = some (oE 9 [.int (iI cu), .int (iI lr), .int (iI mc), .ref a])) (hr : rI cu ∧ rI n) : gMet l D X b0 yJ9_hasNext cJ9_hasNext 1 (some FieldType.boolean) (rmE 0 0 0) [.ref t] G (eB (cu ≠ n) G) := by
  refine gm_start (own := "java/util/ArrayList$Itr") (lv := [some (.ref t)]) (by decide +kernel) rfl (Nat.le_of_ble_eq_true rfl) rfl (fun p_ e_ s_ m_ args_ below_ meth_ c_ hc hnm => ?_)
  refine gw_aload_n (q := 1) hc dJ9_hasNext_0 rfl rfl xg_0 ?_
  refine gw_get (q := 4) hc dJ9_hasNext_1 rfl cE_IT 0 (by decide) q285 (fun _ h => h) hT rfl ?_
  refine gw_aload_n (q := 5) hc dJ9_hasNext_4 rfl rfl xg_0 ?_
  refine gw_get (q := 8) hc dJ9_hasNext_5 rfl cE_IT 3 (by decide) q288 (fun _ h => h) hT rfl ?_
  refine gw_getN (q := 11) hc dJ9_hasNext_8 rfl cE_AL 2 (by decide) q128 (fun _ h => h) hG rfl ?_
  refine gw_icmp_eq  (q := 14) (t := 18) hc dJ9_hasNext_11 rfl (by decide) (by omega) (by omega) (fun c11 => ?_) (fun c11 => ?_)
  · skip
    refine gw_iconst (q := 19) hc dJ9_hasNext_18 rfl ?_
    exact gw_zret hc (by first | exact Or.inl rfl | exact Or.inr rfl | omega) dJ9_hasNext_19 ⟨_, rfl, ⟨by omega, rfl⟩⟩
  · skip
    refine gw_iconst (q := 15) hc dJ9_hasNext_14 rfl ?_
    refine gw_goto (q := 19) hc dJ9_hasNext_15 (by decide) ?_
    exact gw_zret hc (by first | exact Or.inl rfl | exact Or.inr rfl | omega) dJ9_hasNext_19 ⟨_, rfl, ⟨by omega, rfl⟩⟩

set_option maxHeartbeats 4000000 in
theorem m_J9_checkForComodification {l : Launch} {D : va_G} {X : Nat → Nat} {b0 : Nat} {t a ar : Nat} {mc n cu lr : Int} {G : gM} (hG : G a = some (alO mc ar n)) (hT : G t = some (oE 9 [.int (iI cu), .int (iI lr), .int (iI mc), .ref a])) (hmc : rI mc) : gMet l D X b0 yJ9_checkForComodification cJ9_checkForComodification 1 none (rmE 0 0 0) [.ref t] G (eV G) := by
  refine gm_start (own := "java/util/ArrayList$Itr") (lv := [some (.ref t)]) (by decide +kernel) rfl (Nat.le_of_ble_eq_true rfl) rfl (fun p_ e_ s_ m_ args_ below_ meth_ c_ hc hnm => ?_)
  refine gw_aload_n (q := 1) hc dJ9_checkForComodification_0 rfl rfl xg_0 ?_
  refine gw_get (q := 4) hc dJ9_checkForComodification_1 rfl cE_IT 3 (by decide) q288 (fun _ h => h) hT rfl ?_
  refine gw_get (q := 7) hc dJ9_checkForComodification_4 rfl cE_AL 0 (by decide) q131 (fun _ h => u_same (hc.2.2.2.2.1 _ q132) _ h) hG rfl ?_
  refine gw_aload_n (q := 8) hc dJ9_checkForComodification_7 rfl rfl xg_0 ?_
  refine gw_get (q := 11) hc dJ9_checkForComodification_8 rfl cE_IT 2 (by decide) q287 (fun _ h => h) hT rfl ?_
  refine gw_icmp_eq  (q := 14) (t := 22) hc dJ9_checkForComodification_11 rfl (by decide) (by omega) (by omega) (fun c11 => ?_) (fun c11 => ?_)
  · skip
    exact gw_vret hc dJ9_checkForComodification_22 ⟨rfl, rfl⟩
  · exact absurd rfl c11

theorem mw_J9_checkForComodification : mV "java/util/ArrayList$Itr" yJ9_checkForComodification cJ9_checkForComodification 1 none 0 := ⟨⟨rfl, by decide +kernel, by decide +kernel, by decide +kernel⟩, q318, q319, q86, q320⟩
set_option maxHeartbeats 4000000 in
theorem m_J9_next {l : Launch} {D : va_G} {X : Nat → Nat} {b0 : Nat} {t a ar : Nat} {mc n cu lr : Int} {G : gM} (hG : G a = some (alO mc ar n)) (hT : G t = some (oE 9 [.int (iI cu), .int (iI lr), .int (iI mc), .ref a])) (hmc : rI mc) {el : Int → Nat} (hA : alP D X G ar n el) (hcu : 0 ≤ cu ∧ cu < n) : gMet l D X b0 yJ9_next cJ9_next 3 (some (FieldType.object "java/lang/Object")) (rmE 1 0 0) [.ref t] G (eA (el cu) (gup G t (oE 9 [.int (iI (cu + 1)), .int (iI cu), .int (iI mc), .ref a]))) := by
  refine gm_start (own := "java/util/ArrayList$Itr") (lv := [some (.ref t), none, none]) (by decide +kernel) rfl (Nat.le_of_ble_eq_true rfl) rfl (fun p_ e_ s_ m_ args_ below_ meth_ c_ hc hnm => ?_)
  have hne : a ≠ t := fun z => by rw [z, hT] at hG; cases hG
  obtain ⟨cap, f, hA1, hf, hb, hfi⟩ := alP_get hA hcu.1 hcu.2
  have hne2 : ar ≠ t := fun z => by rw [z, hT] at hA1; cases hA1
  have hn1 := hA.1
  refine gw_aload_n (q := 1) hc dJ9_next_0 rfl rfl xg_0 ?_
  refine gw_callV (q := 4) (bc' := 0) (bs' := 0) (As := []) hc dJ9_next_1 rfl q317 mw_J9_checkForComodification (rc_o hc cE_IT hT) rfl rfl (m_J9_checkForComodification hG hT hmc) ⟨Nat.le_of_ble_eq_true rfl, Nat.le_of_ble_eq_true rfl⟩ (Nat.le_of_ble_eq_true rfl) (Nat.le_of_ble_eq_true rfl) (Nat.le_of_ble_eq_true rfl) (goV fun G1 h1 => ?_)
  subst h1
  refine gw_aload_n (q := 5) hc dJ9_next_4 rfl rfl xg_0 ?_
  refine gw_get (q := 8) hc dJ9_next_5 rfl cE_IT 0 (by decide) q285 (fun _ h => h) hT rfl ?_
  refine gw_istore_n (q := 9) hc dJ9_next_8 rfl rfl xs_1 (by decide) (n2p xg_0 rfl) ?_
  refine gw_iload_n (q := 10) hc dJ9_next_9 rfl rfl xg_1 ?_
  refine gw_aload_n (q := 11) hc dJ9_next_10 rfl rfl xg_0 ?_
  refine gw_get (q := 14) hc dJ9_next_11 rfl cE_IT 3 (by decide) q288 (fun _ h => h) hT rfl ?_
  refine gw_getN (q := 17) hc dJ9_next_14 rfl cE_AL 2 (by decide) q128 (fun _ h => h) hG rfl ?_
  refine gw_icmp_lt  (q := 20) (t := 28) hc dJ9_next_17 rfl (by decide) (by omega) (by omega) (fun c17 => ?_) (fun c17 => ?_)
  · skip
    refine gw_aload_n (q := 29) hc dJ9_next_28 rfl rfl xg_0 ?_
    refine gw_get (q := 32) hc dJ9_next_29 rfl cE_IT 3 (by decide) q288 (fun _ h => h) hT rfl ?_
    refine gw_get (q := 35) hc dJ9_next_32 rfl cE_AL 1 (by decide) q127 (fun _ h => h) hG rfl ?_
    refine gw_astore_n (q := 36) hc dJ9_next_35 rfl rfl xs_2 (by decide) (n2p xg_1 rfl) ?_
    refine gw_iload_n (q := 37) hc dJ9_next_36 rfl rfl xg_1 ?_
    refine gw_aload_n (q := 38) hc dJ9_next_37 rfl rfl xg_2 ?_
    refine gw_alen (q := 39) hc (4) dJ9_next_38 rfl hA1 rfl ?_
    refine gw_icmp_lt  (q := 42) (t := 50) hc dJ9_next_39 rfl (by decide) (by omega) (by omega) (fun c39 => ?_) (fun c39 => ?_)
    · skip
      refine gw_aload_n (q := 51) hc dJ9_next_50 rfl rfl xg_0 ?_
      refine gw_iload_n (q := 52) hc dJ9_next_51 rfl rfl xg_1 ?_
      refine gw_iconst (q := 53) hc dJ9_next_52 rfl ?_
      refine gw_iadd (q := 54) hc dJ9_next_53 rfl ?_
      refine gw_put (q := 57) hc dJ9_next_54 rfl cE_IT 0 (by decide) q285 (fun _ h => h) rfl hT ⟨rfl, rfl⟩ rfl (Nat.le_of_ble_eq_true rfl) ?_
      refine gw_aload_n (q := 58) hc dJ9_next_57 rfl rfl xg_2 ?_
      refine gw_aload_n (q := 59) hc dJ9_next_58 rfl rfl xg_0 ?_
      refine gw_iload_n (q := 60) hc dJ9_next_59 rfl rfl xg_1 ?_
      refine gw_dup_x1 (q := 61) hc dJ9_next_60 rfl rfl rfl ?_
      refine gw_put (q := 64) hc dJ9_next_61 rfl cE_IT 1 (by decide) q286 (fun _ h => h) rfl gup_s ⟨rfl, rfl⟩ rfl (Nat.le_of_ble_eq_true rfl) ?_
      refine gw_G gup_gup ?_
      refine gw_aald (q := 65) hc dJ9_next_64 rfl ((gup_n hne2).trans hA1) (by omega) (by omega) ?_
      rw [hfi]
      exact gw_aret hc rfl (by first | exact Or.inl ⟨_, rfl⟩ | exact Or.inr ⟨_, rfl⟩) dJ9_next_65 ⟨_, rfl, ⟨rfl, rfl⟩⟩
    · exfalso; omega
  · exfalso; omega

