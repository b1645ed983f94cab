/-! ===== READING ORDERS: orders ===== -/
set_option maxRecDepth 100000
theorem gup_xr2 {G : gM} {x rd : Nat} {a b c : va_E} (h : x ≠ rd) : gup (gup (gup G rd a) x b) rd c = gup (gup G x b) rd c := by
  rw [gup_comm h, gup_gup]
  exact gup_comm (Ne.symm h)
theorem sb_nw {D : va_G} {tg : Nat → Nat} {pid pd x : Nat} {ln : Int} {Pd : Int → Int} {G : gM} {c : va_E} (hS : sbR D tg pid pd ln Pd G) (hx : G x = none) : sbR D tg pid pd ln Pd (gup G x c) := by
  obtain ⟨vl, mb, cap, f, h1, h2, h3⟩ := hS
  exact ⟨vl, mb, cap, f, gup_k h1 hx, gup_k h2 hx, h3⟩
theorem tx_0 {k : Nat} (h : k ≤ 6) : txN k = 0 ↔ k = 6 := by
  rcases (by omega : k = 0 ∨ k = 1 ∨ k = 2 ∨ k = 3 ∨ k = 4 ∨ k = 5 ∨ k = 6) with rfl | rfl | rfl | rfl | rfl | rfl | rfl <;> decide
section ORK
variable {Pd : Int → Int} {ln q : Int}
theorem or_0 : orA Pd ln 0 q = ldA Pd ln q ∧ orB Pd ln 0 q = 0 ∧ orS Pd ln 0 q = (if dg Pd ln q < 0 then q else q + 1) ∧ orW Pd ln 0 q = 0 := ⟨by unfold orA; rw [if_neg (by omega)], by unfold orB; rw [if_neg (by omega)], by unfold orS; rw [if_neg (by omega), if_neg (by omega)], by unfold orW; rw [if_pos rfl]⟩
theorem or_1 : orA Pd ln 1 q = ldA Pd ln q ∧ orB Pd ln 1 q = ldB Pd ln q ∧ orS Pd ln 1 q = ldS Pd ln q ∧ orW Pd ln 1 q = ldW Pd ln q := ⟨by unfold orA; rw [if_neg (by omega)], by unfold orB; rw [if_pos rfl], by unfold orS; rw [if_pos rfl], by unfold orW; rw [if_neg (by omega), if_pos rfl]⟩
theorem or_2 {k : Nat} (h : k = 2 ∨ k = 3) : orA Pd ln k q = nuF Pd ln q ∧ orB Pd ln k q = 0 ∧ orS Pd ln k q = nmS Pd ln q ∧ orW Pd ln k q = nmW Pd ln q := ⟨by unfold orA; rw [if_pos h], by unfold orB; rw [if_neg (by omega)], by unfold orS; rw [if_neg (by omega), if_pos h], by unfold orW; rw [if_neg (by omega), if_neg (by omega), if_pos h]⟩
theorem or_4 {k : Nat} (h : k = 4 ∨ k = 5) : orA Pd ln k q = ldA Pd ln q ∧ orB Pd ln k q = 0 ∧ orS Pd ln k q = (if dg Pd ln q < 0 then q else q + 1) ∧ orW Pd ln k q = (if dg Pd ln q < 0 then 1 else 0) := ⟨by unfold orA; rw [if_neg (by omega)], by unfold orB; rw [if_neg (by omega)], by unfold orS; rw [if_neg (by omega), if_neg (by omega)], by unfold orW; rw [if_neg (by omega), if_neg (by omega), if_neg (by omega)]⟩
theorem ld_n (h : dg Pd ln q < 0) : ldA Pd ln q = 0 ∧ ldB Pd ln q = 0 ∧ ldS Pd ln q = q ∧ ldW Pd ln q = 1 := ⟨if_pos h, if_pos h, if_pos h, if_pos h⟩
theorem ld_e (h : 0 ≤ dg Pd ln q) (hc : cd Pd ln (q + 1) = 61) : ldA Pd ln q = dg Pd ln q ∧ ldB Pd ln q = nuF Pd ln (q + 2) ∧ ldS Pd ln q = nmS Pd ln (q + 2) ∧ ldW Pd ln q = nmW Pd ln (q + 2) := ⟨if_neg (by omega), by unfold ldB; rw [if_neg (by omega), if_pos hc], by unfold ldS; rw [if_neg (by omega), if_pos hc], by unfold ldW; rw [if_neg (by omega), if_pos hc]⟩
theorem ld_f (h : 0 ≤ dg Pd ln q) (hc : cd Pd ln (q + 1) ≠ 61) : ldA Pd ln q = dg Pd ln q ∧ ldB Pd ln q = 0 ∧ ldS Pd ln q = q + 1 ∧ ldW Pd ln q = 1 := ⟨if_neg (by omega), by unfold ldB; rw [if_neg (by omega), if_neg hc], by unfold ldS; rw [if_neg (by omega), if_neg hc], by unfold ldW; rw [if_neg (by omega), if_neg hc]⟩
end ORK

theorem mw_X5_sign : mV "EnergyDiscs$Reader" yX5_sign cX5_sign 2 none 1 := ⟨⟨rfl, by decide +kernel, by decide +kernel, by decide +kernel⟩, q1189, qs37, q95, q1190⟩
theorem mw_X5_number : mV "EnergyDiscs$Reader" yX5_number cX5_number 3 (some FieldType.int) 0 := ⟨⟨rfl, by decide +kernel, by decide +kernel, by decide +kernel⟩, q1193, qs38, q95, q1194⟩
theorem mw_X7_init : mI yX7_init cX7_init 4 3 := ⟨⟨rfl, by decide +kernel, by decide +kernel, by decide +kernel⟩, q1167, q97, q1168⟩
set_option maxHeartbeats 4000000 in
theorem m_X5_load {l : Launch} {D : va_G} {X : Nat → Nat} {b0 : Nat} {tg : Nat → Nat} {rd ol e a0 pl sv pd : Nat} {sp ln : Int} {Pd : Int → Int} {G : gM} (hR : G rd = some (rdO ol sp 0 e)) (hE : G e = some (edO a0 pl sv pd)) (hS : sbR D tg 996 pd ln Pd G) (hp : padW Pd ln) (hsp : 0 ≤ sp ∧ sp ≤ 86) : gMet l D X b0 yX5_load cX5_load 2 (some (FieldType.object "EnergyDiscs$Order")) (rmE 9 1 3) [.ref rd] G (pA fun r G' => G r = none ∧ r ≠ rd ∧ G' = gup (gup G r (orO X 1 (ldA Pd ln sp) (ldB Pd ln sp))) rd (rdO ol (ldS Pd ln sp) (ldW Pd ln sp) e)) := by
  refine gm_start (own := "EnergyDiscs$Reader") (lv := [some (.ref rd), none]) (by decide +kernel) rfl (Nat.le_of_ble_eq_true rfl) rfl (fun p_ e_ s_ m_ args_ below_ meth_ c_ hc hnm => ?_)
  obtain ⟨vl, mb, cap, f, hG, -⟩ := id hS
  have hpb := hp.1
  have hre : rd ≠ e := fun z => by rw [z, hE] at hR; cases hR
  refine gw_aload_n (q := 1) hc dX5_load_0 rfl rfl xg_0 ?_
  refine gw_callV (q := 4) (bc' := 1) (bs' := 3) (As := []) hc dX5_load_1 rfl q1162 mw_X5_digit (rc_o hc cE_RE hR) rfl rfl (m_X5_digit hR hE hS hp (by omega) (Or.inl rfl)) ⟨Nat.le_of_ble_eq_true rfl, Nat.le_of_ble_eq_true rfl⟩ (Nat.le_of_ble_eq_true rfl) (Nat.le_of_ble_eq_true rfl) (Nat.le_of_ble_eq_true rfl) (goI fun r1 G1 h1 => ?_)
  obtain ⟨er1, hgg⟩ := h1
  rw [hgg, er1]
  rcases (by omega : dg Pd ln sp < 0 ∨ 0 ≤ dg Pd ln sp) with c4d | c4d
  · rw [if_neg (by omega), if_neg (by omega), if_neg (by omega)]
    refine gw_istore_n (q := 5) hc dX5_load_4 rfl rfl xs_1 (by decide) (n2p xg_0 rfl) ?_
    refine gw_aload_n (q := 6) hc dX5_load_5 rfl rfl xg_0 ?_
    refine gw_bipush (q := 8) hc dX5_load_6 rfl (by decide) ?_
    refine gw_callV (q := 11) (bc' := 1) (bs' := 3) (As := [_]) hc dX5_load_8 rfl q1187 mw_X5_sign (rc_o hc cE_RE gup_s) rfl rfl (m_X5_sign gup_s (by rw [gup_n (Ne.symm hre)]; exact hE) (sb_up hS hR (by decide)) hp (by omega) (Or.inr rfl) ⟨by omega, by omega⟩) ⟨Nat.le_of_ble_eq_true rfl, Nat.le_of_ble_eq_true rfl⟩ (Nat.le_of_ble_eq_true rfl) (Nat.le_of_ble_eq_true rfl) (Nat.le_of_ble_eq_true rfl) (goV fun G8 h8 => ?_)
    subst h8
    rw [if_neg (fun z => by have := z.1; omega), if_neg (fun z => by have := z.1; omega)]
    refine gw_G gup_gup ?_
    refine gw_new (q := 14) (fs := [.null, .int (iI 0), .int (iI 0)]) hc dX5_load_11 rfl cE_OR q1153 q1154 q97 (fun j hj => by rcases (by omega : j = 0 ∨ j = 1 ∨ j = 2) with rfl | rfl | rfl <;> rfl) (bc' := 0) (bs' := 0) (Nat.le_of_ble_eq_true rfl) (Nat.le_of_ble_eq_true rfl) (fun x hnx hbx => ?_)
    have hx0 := (none_gup hnx).2
    have hxr : x ≠ rd := (none_gup hnx).1
    have hEx := gup_k (e' := oE 6 [.null, .int (iI 0), .int (iI 0)]) (show gup G rd (rdO ol (sp) 1 e) e = some (edO a0 pl sv pd) from (by rw [gup_n (Ne.symm hre)]; exact hE)) hnx
    have hSx := sb_nw (c := oE 6 [.null, .int (iI 0), .int (iI 0)]) (show sbR D tg 996 pd ln Pd (gup G rd (rdO ol (sp) 1 e)) from (sb_up hS hR (by decide))) hnx
    refine gw_dup (q := 15) hc dX5_load_14 rfl rfl ?_
    refine gw_ldcS (q := 17) hc dX5_load_15 rfl (k := 1) (by decide) ?_
    refine gw_iload_n (q := 18) hc dX5_load_17 rfl rfl xg_1 ?_
    refine gw_aload_n (q := 19) hc dX5_load_18 rfl rfl xg_0 ?_
    refine gw_callV (q := 22) (bc' := 0) (bs' := 0) (As := []) hc dX5_load_19 rfl q1191 mw_X5_number (rc_o hc cE_RE (gup_k gup_s hnx)) rfl rfl (m_X5_number_w (gup_k gup_s hnx) hEx hSx hp (by omega)) ⟨Nat.le_of_ble_eq_true rfl, Nat.le_of_ble_eq_true rfl⟩ (Nat.le_of_ble_eq_true rfl) (Nat.le_of_ble_eq_true rfl) (Nat.le_of_ble_eq_true rfl) (goI fun r19 G19 h19 => ?_)
    obtain ⟨er19, hgg⟩ := h19
    rw [hgg, er19]
    refine gw_G (gup_xr2 hxr) ?_
    have hXx : gup (gup G x (oE 6 [.null, .int (iI 0), .int (iI 0)])) rd (rdO ol (sp) (1) e) x = some (oE 6 [.null, .int (iI 0), .int (iI 0)]) := by rw [gup_n hxr, gup_s]
    refine gw_callI (q := 25) (bc' := 0) (bs' := 0) (As := [_, _, _]) hc dX5_load_22 rfl q1166 mw_X7_init rfl rfl (m_X7_init hXx) ⟨Nat.le_of_ble_eq_true rfl, Nat.le_of_ble_eq_true rfl⟩ (Nat.le_of_ble_eq_true rfl) (Nat.le_of_ble_eq_true rfl) (Nat.le_of_ble_eq_true rfl) (goV fun G22 h22 => ?_)
    subst h22
    exact gw_aret hc rfl (by first | exact Or.inl ⟨_, rfl⟩ | exact Or.inr ⟨_, rfl⟩) dX5_load_25 ⟨_, rfl, ⟨hx0, hxr, by rw [(ld_n c4d).1, (ld_n c4d).2.1, (ld_n c4d).2.2.1, (ld_n c4d).2.2.2]; exact gup_xr hxr⟩⟩
  · rw [if_pos ⟨rfl, by omega⟩, if_pos ⟨rfl, by omega⟩, if_pos ⟨rfl, by omega⟩]
    refine gw_istore_n (q := 5) hc dX5_load_4 rfl rfl xs_1 (by decide) (n2p xg_0 rfl) ?_
    refine gw_aload_n (q := 6) hc dX5_load_5 rfl rfl xg_0 ?_
    refine gw_bipush (q := 8) hc dX5_load_6 rfl (by decide) ?_
    refine gw_callV (q := 11) (bc' := 1) (bs' := 3) (As := [_]) hc dX5_load_8 rfl q1187 mw_X5_sign (rc_o hc cE_RE gup_s) rfl rfl (m_X5_sign gup_s (by rw [gup_n (Ne.symm hre)]; exact hE) (sb_up hS hR (by decide)) hp (by omega) (Or.inl rfl) ⟨by omega, by omega⟩) ⟨Nat.le_of_ble_eq_true rfl, Nat.le_of_ble_eq_true rfl⟩ (Nat.le_of_ble_eq_true rfl) (Nat.le_of_ble_eq_true rfl) (Nat.le_of_ble_eq_true rfl) (goV fun G8 h8 => ?_)
    subst h8
    have hatc := at_c (Pd := Pd) (ln := ln) (q := sp + 1) (c := 61) (by decide)
    by_cases c11d : cd Pd ln (sp + 1) = 61
    · rw [if_pos ⟨rfl, hatc.mpr c11d⟩, if_pos ⟨rfl, hatc.mpr c11d⟩]
      refine gw_G gup_gup ?_
      refine gw_new (q := 14) (fs := [.null, .int (iI 0), .int (iI 0)]) hc dX5_load_11 rfl cE_OR q1153 q1154 q97 (fun j hj => by rcases (by omega : j = 0 ∨ j = 1 ∨ j = 2) with rfl | rfl | rfl <;> rfl) (bc' := 0) (bs' := 0) (Nat.le_of_ble_eq_true rfl) (Nat.le_of_ble_eq_true rfl) (fun x hnx hbx => ?_)
      have hx0 := (none_gup hnx).2
      have hxr : x ≠ rd := (none_gup hnx).1
      have hEx := gup_k (e' := oE 6 [.null, .int (iI 0), .int (iI 0)]) (show gup G rd (rdO ol (sp + 1 + 1) 0 e) e = some (edO a0 pl sv pd) from (by rw [gup_n (Ne.symm hre)]; exact hE)) hnx
      have hSx := sb_nw (c := oE 6 [.null, .int (iI 0), .int (iI 0)]) (show sbR D tg 996 pd ln Pd (gup G rd (rdO ol (sp + 1 + 1) 0 e)) from (sb_up hS hR (by decide))) hnx
      refine gw_dup (q := 15) hc dX5_load_14 rfl rfl ?_
      refine gw_ldcS (q := 17) hc dX5_load_15 rfl (k := 1) (by decide) ?_
      refine gw_iload_n (q := 18) hc dX5_load_17 rfl rfl xg_1 ?_
      refine gw_aload_n (q := 19) hc dX5_load_18 rfl rfl xg_0 ?_
      refine gw_callV (q := 22) (bc' := 0) (bs' := 0) (As := []) hc dX5_load_19 rfl q1191 mw_X5_number (rc_o hc cE_RE (gup_k gup_s hnx)) rfl rfl (m_X5_number (gup_k gup_s hnx) hEx hSx hp (by omega)) ⟨Nat.le_of_ble_eq_true rfl, Nat.le_of_ble_eq_true rfl⟩ (Nat.le_of_ble_eq_true rfl) (Nat.le_of_ble_eq_true rfl) (Nat.le_of_ble_eq_true rfl) (goI fun r19 G19 h19 => ?_)
      obtain ⟨er19, hgg⟩ := h19
      rw [hgg, er19]
      refine gw_G (gup_xr2 hxr) ?_
      have hXx : gup (gup G x (oE 6 [.null, .int (iI 0), .int (iI 0)])) rd (rdO ol (nmS Pd ln (sp + 1 + 1)) (nmW Pd ln (sp + 1 + 1)) e) x = some (oE 6 [.null, .int (iI 0), .int (iI 0)]) := by rw [gup_n hxr, gup_s]
      refine gw_callI (q := 25) (bc' := 0) (bs' := 0) (As := [_, _, _]) hc dX5_load_22 rfl q1166 mw_X7_init rfl rfl (m_X7_init hXx) ⟨Nat.le_of_ble_eq_true rfl, Nat.le_of_ble_eq_true rfl⟩ (Nat.le_of_ble_eq_true rfl) (Nat.le_of_ble_eq_true rfl) (Nat.le_of_ble_eq_true rfl) (goV fun G22 h22 => ?_)
      subst h22
      exact gw_aret hc rfl (by first | exact Or.inl ⟨_, rfl⟩ | exact Or.inr ⟨_, rfl⟩) dX5_load_25 ⟨_, rfl, ⟨hx0, hxr, by rw [(ld_e c4d c11d).1, (ld_e c4d c11d).2.1, (ld_e c4d c11d).2.2.1, (ld_e c4d c11d).2.2.2, show sp + 1 + 1 = sp + 2 by omega]; exact gup_xr hxr⟩⟩
    · rw [if_neg (fun z => c11d (hatc.mp z.2)), if_neg (fun z => c11d (hatc.mp z.2))]
      refine gw_G gup_gup ?_
      refine gw_new (q := 14) (fs := [.null, .int (iI 0), .int (iI 0)]) hc dX5_load_11 rfl cE_OR q1153 q1154 q97 (fun j hj => by rcases (by omega : j = 0 ∨ j = 1 ∨ j = 2) with rfl | rfl | rfl <;> rfl) (bc' := 0) (bs' := 0) (Nat.le_of_ble_eq_true rfl) (Nat.le_of_ble_eq_true rfl) (fun x hnx hbx => ?_)
      have hx0 := (none_gup hnx).2
      have hxr : x ≠ rd := (none_gup hnx).1
      have hEx := gup_k (e' := oE 6 [.null, .int (iI 0), .int (iI 0)]) (show gup G rd (rdO ol (sp + 1) 1 e) e = some (edO a0 pl sv pd) from (by rw [gup_n (Ne.symm hre)]; exact hE)) hnx
      have hSx := sb_nw (c := oE 6 [.null, .int (iI 0), .int (iI 0)]) (show sbR D tg 996 pd ln Pd (gup G rd (rdO ol (sp + 1) 1 e)) from (sb_up hS hR (by decide))) hnx
      refine gw_dup (q := 15) hc dX5_load_14 rfl rfl ?_
      refine gw_ldcS (q := 17) hc dX5_load_15 rfl (k := 1) (by decide) ?_
      refine gw_iload_n (q := 18) hc dX5_load_17 rfl rfl xg_1 ?_
      refine gw_aload_n (q := 19) hc dX5_load_18 rfl rfl xg_0 ?_
      refine gw_callV (q := 22) (bc' := 0) (bs' := 0) (As := []) hc dX5_load_19 rfl q1191 mw_X5_number (rc_o hc cE_RE (gup_k gup_s hnx)) rfl rfl (m_X5_number_w (gup_k gup_s hnx) hEx hSx hp (by omega)) ⟨Nat.le_of_ble_eq_true rfl, Nat.le_of_ble_eq_true rfl⟩ (Nat.le_of_ble_eq_true rfl) (Nat.le_of_ble_eq_true rfl) (Nat.le_of_ble_eq_true rfl) (goI fun r19 G19 h19 => ?_)
      obtain ⟨er19, hgg⟩ := h19
      rw [hgg, er19]
      refine gw_G (gup_xr2 hxr) ?_
      have hXx : gup (gup G x (oE 6 [.null, .int (iI 0), .int (iI 0)])) rd (rdO ol (sp + 1) (1) e) x = some (oE 6 [.null, .int (iI 0), .int (iI 0)]) := by rw [gup_n hxr, gup_s]
      refine gw_callI (q := 25) (bc' := 0) (bs' := 0) (As := [_, _, _]) hc dX5_load_22 rfl q1166 mw_X7_init rfl rfl (m_X7_init hXx) ⟨Nat.le_of_ble_eq_true rfl, Nat.le_of_ble_eq_true rfl⟩ (Nat.le_of_ble_eq_true rfl) (Nat.le_of_ble_eq_true rfl) (Nat.le_of_ble_eq_true rfl) (goV fun G22 h22 => ?_)
      subst h22
      exact gw_aret hc rfl (by first | exact Or.inl ⟨_, rfl⟩ | exact Or.inr ⟨_, rfl⟩) dX5_load_25 ⟨_, rfl, ⟨hx0, hxr, by rw [(ld_f c4d c11d).1, (ld_f c4d c11d).2.1, (ld_f c4d c11d).2.2.1, (ld_f c4d c11d).2.2.2]; exact gup_xr hxr⟩⟩

theorem mw_J5_hashCode : mV "java/lang/String" yJ5_hashCode cJ5_hashCode 2 (some FieldType.int) 0 := ⟨⟨rfl, by decide +kernel, by decide +kernel, by decide +kernel⟩, q1093, q1094, q80, q1095⟩
theorem mw_J5_equals : mV "java/lang/String" yJ5_equals cJ5_equals 3 (some FieldType.boolean) 1 := ⟨⟨rfl, by decide +kernel, by decide +kernel, by decide +kernel⟩, q1143, q1144, q80, q1145⟩
theorem mw_X5_load : mV "EnergyDiscs$Reader" yX5_load cX5_load 2 (some (FieldType.object "EnergyDiscs$Order")) 0 := ⟨⟨rfl, by decide +kernel, by decide +kernel, by decide +kernel⟩, q1185, qs36, q95, q1186⟩
set_option maxHeartbeats 4000000 in
theorem m_X5_order {l : Launch} {D : va_G} {X : Nat → Nat} {b0 : Nat} {tg : Nat → Nat} {rd ol e a0 pl sv pd : Nat} {sp ln : Int} {Pd : Int → Int} {G : gM} (hR : G rd = some (rdO ol sp 0 e)) (hE : G e = some (edO a0 pl sv pd)) (hS : sbR D tg 996 pd ln Pd G) (hp : padW Pd ln) (hsp : 0 ≤ sp ∧ sp ≤ 86) {k : Nat} (hk6 : k < 6) : gMet l D X b0 yX5_order cX5_order 4 (some (FieldType.object "EnergyDiscs$Order")) (rmE 10 1 3) [.ref rd, .ref (X (10 + k))] G (pA fun r G' => G r = none ∧ r ≠ rd ∧ G' = gup (gup G r (orO X k (orA Pd ln k sp) (orB Pd ln k sp))) rd (rdO ol (orS Pd ln k sp) (orW Pd ln k sp) e)) := by
  refine gm_start (own := "EnergyDiscs$Reader") (lv := [some (.ref rd), some (.ref (X (10 + k))), none, none]) (by decide +kernel) rfl (Nat.le_of_ble_eq_true rfl) rfl (fun p_ e_ s_ m_ args_ below_ meth_ c_ hc hnm => ?_)
  obtain ⟨vl, mb, cap, f, hG, -⟩ := id hS
  have hpb := hp.1
  have hre : rd ≠ e := fun z => by rw [z, hE] at hR; cases hR
  have hd0 := dg_r (Pd := Pd) (ln := ln) (q := sp)
  refine gw_aload_n (q := 1) hc dX5_order_0 rfl rfl xg_1 ?_
  refine gw_astore_n (q := 2) hc dX5_order_1 rfl rfl xs_2 (by decide) (n2p xg_1 rfl) ?_
  refine gw_iconst (q := 3) hc dX5_order_2 rfl ?_
  refine gw_istore_n (q := 4) hc dX5_order_3 rfl rfl xs_3 (by decide) (n2p xg_2 rfl) ?_
  refine gw_aload_n (q := 5) hc dX5_order_4 rfl rfl xg_2 ?_
  refine gw_callV (q := 8) (bc' := 1) (bs' := 3) (As := []) hc dX5_order_5 rfl q1092 mw_J5_hashCode (rc_s hc (by omega)) rfl rfl (m_J5_hashCode hk6) ⟨Nat.le_of_ble_eq_true rfl, Nat.le_of_ble_eq_true rfl⟩ (Nat.le_of_ble_eq_true rfl) (Nat.le_of_ble_eq_true rfl) (Nat.le_of_ble_eq_true rfl) (goI fun r5 G5 h5 => ?_)
  obtain ⟨er5, hgg⟩ := h5
  rw [hgg, er5]
  rcases (by omega : k = 0 ∨ k = 1 ∨ k = 2 ∨ k = 3 ∨ k = 4 ∨ k = 5) with rfl | rfl | rfl | rfl | rfl | rfl
  · skip
    refine gw_lookup (t := 52) hc dX5_order_8 (by decide) (by decide) (by rfl) (by decide) ?_
    refine gw_aload_n (q := 53) hc dX5_order_52 rfl rfl xg_2 ?_
    refine gw_ldcS (q := 55) hc dX5_order_53 rfl (k := 0) (by decide) ?_
    refine gw_callV (q := 58) (bc' := 1) (bs' := 3) (As := [_]) hc dX5_order_55 rfl q1142 mw_J5_equals (rc_s hc (k := 0) (by decide)) rfl rfl (m_J5_equals (k := 0) (by decide)) ⟨Nat.le_of_ble_eq_true rfl, Nat.le_of_ble_eq_true rfl⟩ (Nat.le_of_ble_eq_true rfl) (Nat.le_of_ble_eq_true rfl) (Nat.le_of_ble_eq_true rfl) (goI fun r55 G55 h55 => ?_)
    obtain ⟨er55, hgg⟩ := h55
    rw [hgg, er55]
    refine gw_if_eq  (q := 61) (t := 105) hc dX5_order_58 rfl (by decide) (by omega) (fun c58 => ?_) (fun c58 => ?_)
    · exfalso; omega
    · skip
      refine gw_iconst (q := 62) hc dX5_order_61 rfl ?_
      refine gw_istore_n (q := 63) hc dX5_order_62 rfl rfl xs_3 (by decide) (n2p xg_2 rfl) ?_
      refine gw_goto (q := 105) hc dX5_order_63 (by decide) ?_
      refine gw_iload_n (q := 106) hc dX5_order_105 rfl rfl xg_3 ?_
      refine gw_tableIn (t := 136) hc dX5_order_106 (by decide) (by decide) (by rfl) (by decide) ?_
      refine gw_new (q := 139) (fs := [.null, .int (iI 0), .int (iI 0)]) hc dX5_order_136 rfl cE_OR q1153 q1154 q97 (fun j hj => by rcases (by omega : j = 0 ∨ j = 1 ∨ j = 2) with rfl | rfl | rfl <;> rfl) (bc' := 0) (bs' := 0) (Nat.le_of_ble_eq_true rfl) (Nat.le_of_ble_eq_true rfl) (fun x hnx hbx => ?_)
      have hxr : x ≠ rd := fun z => by rw [z, hR] at hnx; cases hnx
      have hRx := gup_k (e' := oE 6 [.null, .int (iI 0), .int (iI 0)]) hR hnx
      have hEx := gup_k (e' := oE 6 [.null, .int (iI 0), .int (iI 0)]) hE hnx
      have hSx := sb_nw (c := oE 6 [.null, .int (iI 0), .int (iI 0)]) hS hnx
      refine gw_dup (q := 140) hc dX5_order_139 rfl rfl ?_
      refine gw_aload_n (q := 141) hc dX5_order_140 rfl rfl xg_1 ?_
      refine gw_aload_n (q := 142) hc dX5_order_141 rfl rfl xg_0 ?_
      refine gw_callV (q := 145) (bc' := 0) (bs' := 0) (As := []) hc dX5_order_142 rfl q1155 mw_X5_seesDigit (rc_o hc cE_RE hRx) rfl rfl (m_X5_seesDigit hRx hEx hSx hp (by omega) (Or.inl rfl)) ⟨Nat.le_of_ble_eq_true rfl, Nat.le_of_ble_eq_true rfl⟩ (Nat.le_of_ble_eq_true rfl) (Nat.le_of_ble_eq_true rfl) (Nat.le_of_ble_eq_true rfl) (goI fun r142 G142 h142 => ?_)
      obtain ⟨b142, hgg⟩ := h142
      rw [hgg]
      refine gw_if_eq  (q := 148) (t := 155) hc dX5_order_145 rfl (by decide) (by omega) (fun c145 => ?_) (fun c145 => ?_)
      · skip
        refine gw_iconst (q := 156) hc dX5_order_155 rfl ?_
        refine gw_iconst (q := 157) hc dX5_order_156 rfl ?_
        refine gw_callI (q := 160) (bc' := 0) (bs' := 0) (As := [_, _, _]) hc dX5_order_157 rfl q1166 mw_X7_init rfl rfl (m_X7_init gup_s) ⟨Nat.le_of_ble_eq_true rfl, Nat.le_of_ble_eq_true rfl⟩ (Nat.le_of_ble_eq_true rfl) (Nat.le_of_ble_eq_true rfl) (Nat.le_of_ble_eq_true rfl) (goV fun G157 h157 => ?_)
        subst h157
        refine gw_goto (q := 199) hc dX5_order_160 (by decide) ?_
        exact gw_aret hc rfl (by first | exact Or.inl ⟨_, rfl⟩ | exact Or.inr ⟨_, rfl⟩) dX5_order_199 ⟨_, rfl, ⟨hnx, hxr, by rw [or_0.1, or_0.2.1, or_0.2.2.1, or_0.2.2.2]; unfold ldA; rw [if_pos (by omega), if_pos (by omega), gup_gup]; exact (gup_id (gup_k hR hnx)).symm⟩⟩
      · skip
        refine gw_aload_n (q := 149) hc dX5_order_148 rfl rfl xg_0 ?_
        refine gw_callV (q := 152) (bc' := 0) (bs' := 0) (As := []) hc dX5_order_149 rfl q1162 mw_X5_digit (rc_o hc cE_RE hRx) rfl rfl (m_X5_digit hRx hEx hSx hp (by omega) (Or.inl rfl)) ⟨Nat.le_of_ble_eq_true rfl, Nat.le_of_ble_eq_true rfl⟩ (Nat.le_of_ble_eq_true rfl) (Nat.le_of_ble_eq_true rfl) (Nat.le_of_ble_eq_true rfl) (goI fun r149 G149 h149 => ?_)
        obtain ⟨er149, hgg⟩ := h149
        rw [hgg, er149, if_pos ⟨rfl, by omega⟩, if_pos ⟨rfl, by omega⟩, if_pos ⟨rfl, by omega⟩]
        have hXx : gup (gup G x (oE 6 [.null, .int (iI 0), .int (iI 0)])) rd (rdO ol (sp + 1) (0) e) x = some (oE 6 [.null, .int (iI 0), .int (iI 0)]) := by rw [gup_n hxr, gup_s]
        refine gw_goto (q := 156) hc dX5_order_152 (by decide) ?_
        refine gw_iconst (q := 157) hc dX5_order_156 rfl ?_
        refine gw_callI (q := 160) (bc' := 0) (bs' := 0) (As := [_, _, _]) hc dX5_order_157 rfl q1166 mw_X7_init rfl rfl (m_X7_init hXx) ⟨Nat.le_of_ble_eq_true rfl, Nat.le_of_ble_eq_true rfl⟩ (Nat.le_of_ble_eq_true rfl) (Nat.le_of_ble_eq_true rfl) (Nat.le_of_ble_eq_true rfl) (goV fun G157 h157 => ?_)
        subst h157
        refine gw_goto (q := 199) hc dX5_order_160 (by decide) ?_
        exact gw_aret hc rfl (by first | exact Or.inl ⟨_, rfl⟩ | exact Or.inr ⟨_, rfl⟩) dX5_order_199 ⟨_, rfl, ⟨hnx, hxr, by rw [or_0.1, or_0.2.1, or_0.2.2.1, or_0.2.2.2]; unfold ldA; rw [if_neg (by omega), if_neg (by omega)]; exact gup_xr hxr⟩⟩
  · skip
    refine gw_lookup (t := 66) hc dX5_order_8 (by decide) (by decide) (by rfl) (by decide) ?_
    refine gw_aload_n (q := 67) hc dX5_order_66 rfl rfl xg_2 ?_
    refine gw_ldcS (q := 69) hc dX5_order_67 rfl (k := 1) (by decide) ?_
    refine gw_callV (q := 72) (bc' := 1) (bs' := 3) (As := [_]) hc dX5_order_69 rfl q1142 mw_J5_equals (rc_s hc (k := 1) (by decide)) rfl rfl (m_J5_equals (k := 1) (by decide)) ⟨Nat.le_of_ble_eq_true rfl, Nat.le_of_ble_eq_true rfl⟩ (Nat.le_of_ble_eq_true rfl) (Nat.le_of_ble_eq_true rfl) (Nat.le_of_ble_eq_true rfl) (goI fun r69 G69 h69 => ?_)
    obtain ⟨er69, hgg⟩ := h69
    rw [hgg, er69]
    refine gw_if_eq  (q := 75) (t := 105) hc dX5_order_72 rfl (by decide) (by omega) (fun c72 => ?_) (fun c72 => ?_)
    · exfalso; omega
    · skip
      refine gw_iconst (q := 76) hc dX5_order_75 rfl ?_
      refine gw_istore_n (q := 77) hc dX5_order_76 rfl rfl xs_3 (by decide) (n2p xg_2 rfl) ?_
      refine gw_goto (q := 105) hc dX5_order_77 (by decide) ?_
      refine gw_iload_n (q := 106) hc dX5_order_105 rfl rfl xg_3 ?_
      refine gw_tableIn (t := 163) hc dX5_order_106 (by decide) (by decide) (by rfl) (by decide) ?_
      refine gw_aload_n (q := 164) hc dX5_order_163 rfl rfl xg_0 ?_
      refine gw_callV (q := 167) (bc' := 0) (bs' := 0) (As := []) hc dX5_order_164 rfl q1183 mw_X5_load (rc_o hc cE_RE hR) rfl rfl (m_X5_load hR hE hS hp hsp) ⟨Nat.le_of_ble_eq_true rfl, Nat.le_of_ble_eq_true rfl⟩ (Nat.le_of_ble_eq_true rfl) (Nat.le_of_ble_eq_true rfl) (Nat.le_of_ble_eq_true rfl) (goA fun r164 G164 h164 => ?_)
      refine gw_goto (q := 199) hc dX5_order_167 (by decide) ?_
      exact gw_aret hc rfl (by first | exact Or.inl ⟨_, rfl⟩ | exact Or.inr ⟨_, rfl⟩) dX5_order_199 ⟨_, rfl, ⟨h164.1, h164.2.1, by rw [or_1.1, or_1.2.1, or_1.2.2.1, or_1.2.2.2]; exact h164.2.2⟩⟩
  · skip
    refine gw_lookup (t := 80) hc dX5_order_8 (by decide) (by decide) (by rfl) (by decide) ?_
    refine gw_aload_n (q := 81) hc dX5_order_80 rfl rfl xg_2 ?_
    refine gw_ldcS (q := 83) hc dX5_order_81 rfl (k := 2) (by decide) ?_
    refine gw_callV (q := 86) (bc' := 1) (bs' := 3) (As := [_]) hc dX5_order_83 rfl q1142 mw_J5_equals (rc_s hc (k := 2) (by decide)) rfl rfl (m_J5_equals (k := 2) (by decide)) ⟨Nat.le_of_ble_eq_true rfl, Nat.le_of_ble_eq_true rfl⟩ (Nat.le_of_ble_eq_true rfl) (Nat.le_of_ble_eq_true rfl) (Nat.le_of_ble_eq_true rfl) (goI fun r83 G83 h83 => ?_)
    obtain ⟨er83, hgg⟩ := h83
    rw [hgg, er83]
    refine gw_if_eq  (q := 89) (t := 105) hc dX5_order_86 rfl (by decide) (by omega) (fun c86 => ?_) (fun c86 => ?_)
    · exfalso; omega
    · skip
      refine gw_iconst (q := 90) hc dX5_order_89 rfl ?_
      refine gw_istore_n (q := 91) hc dX5_order_90 rfl rfl xs_3 (by decide) (n2p xg_2 rfl) ?_
      refine gw_goto (q := 105) hc dX5_order_91 (by decide) ?_
      refine gw_iload_n (q := 106) hc dX5_order_105 rfl rfl xg_3 ?_
      refine gw_tableIn (t := 170) hc dX5_order_106 (by decide) (by decide) (by rfl) (by decide) ?_
      refine gw_new (q := 173) (fs := [.null, .int (iI 0), .int (iI 0)]) hc dX5_order_170 rfl cE_OR q1153 q1154 q97 (fun j hj => by rcases (by omega : j = 0 ∨ j = 1 ∨ j = 2) with rfl | rfl | rfl <;> rfl) (bc' := 0) (bs' := 0) (Nat.le_of_ble_eq_true rfl) (Nat.le_of_ble_eq_true rfl) (fun x hnx hbx => ?_)
      have hxr : x ≠ rd := fun z => by rw [z, hR] at hnx; cases hnx
      have hRx := gup_k (e' := oE 6 [.null, .int (iI 0), .int (iI 0)]) hR hnx
      have hEx := gup_k (e' := oE 6 [.null, .int (iI 0), .int (iI 0)]) hE hnx
      have hSx := sb_nw (c := oE 6 [.null, .int (iI 0), .int (iI 0)]) hS hnx
      refine gw_dup (q := 174) hc dX5_order_173 rfl rfl ?_
      refine gw_aload_n (q := 175) hc dX5_order_174 rfl rfl xg_1 ?_
      refine gw_aload_n (q := 176) hc dX5_order_175 rfl rfl xg_0 ?_
      refine gw_callV (q := 179) (bc' := 0) (bs' := 0) (As := []) hc dX5_order_176 rfl q1191 mw_X5_number (rc_o hc cE_RE hRx) rfl rfl (m_X5_number hRx hEx hSx hp (by omega)) ⟨Nat.le_of_ble_eq_true rfl, Nat.le_of_ble_eq_true rfl⟩ (Nat.le_of_ble_eq_true rfl) (Nat.le_of_ble_eq_true rfl) (Nat.le_of_ble_eq_true rfl) (goI fun r176 G176 h176 => ?_)
      obtain ⟨er176, hgg⟩ := h176
      rw [hgg, er176]
      have hXx : gup (gup G x (oE 6 [.null, .int (iI 0), .int (iI 0)])) rd (rdO ol (nmS Pd ln sp) (nmW Pd ln sp) e) x = some (oE 6 [.null, .int (iI 0), .int (iI 0)]) := by rw [gup_n hxr, gup_s]
      refine gw_iconst (q := 180) hc dX5_order_179 rfl ?_
      refine gw_callI (q := 183) (bc' := 0) (bs' := 0) (As := [_, _, _]) hc dX5_order_180 rfl q1166 mw_X7_init rfl rfl (m_X7_init hXx) ⟨Nat.le_of_ble_eq_true rfl, Nat.le_of_ble_eq_true rfl⟩ (Nat.le_of_ble_eq_true rfl) (Nat.le_of_ble_eq_true rfl) (Nat.le_of_ble_eq_true rfl) (goV fun G180 h180 => ?_)
      subst h180
      refine gw_goto (q := 199) hc dX5_order_183 (by decide) ?_
      exact gw_aret hc rfl (by first | exact Or.inl ⟨_, rfl⟩ | exact Or.inr ⟨_, rfl⟩) dX5_order_199 ⟨_, rfl, ⟨hnx, hxr, by rw [(or_2 (Or.inl rfl)).1, (or_2 (Or.inl rfl)).2.1, (or_2 (Or.inl rfl)).2.2.1, (or_2 (Or.inl rfl)).2.2.2]; exact gup_xr hxr⟩⟩
  · skip
    refine gw_lookup (t := 94) hc dX5_order_8 (by decide) (by decide) (by rfl) (by decide) ?_
    refine gw_aload_n (q := 95) hc dX5_order_94 rfl rfl xg_2 ?_
    refine gw_ldcS (q := 97) hc dX5_order_95 rfl (k := 3) (by decide) ?_
    refine gw_callV (q := 100) (bc' := 1) (bs' := 3) (As := [_]) hc dX5_order_97 rfl q1142 mw_J5_equals (rc_s hc (k := 3) (by decide)) rfl rfl (m_J5_equals (k := 3) (by decide)) ⟨Nat.le_of_ble_eq_true rfl, Nat.le_of_ble_eq_true rfl⟩ (Nat.le_of_ble_eq_true rfl) (Nat.le_of_ble_eq_true rfl) (Nat.le_of_ble_eq_true rfl) (goI fun r97 G97 h97 => ?_)
    obtain ⟨er97, hgg⟩ := h97
    rw [hgg, er97]
    refine gw_if_eq  (q := 103) (t := 105) hc dX5_order_100 rfl (by decide) (by omega) (fun c100 => ?_) (fun c100 => ?_)
    · exfalso; omega
    · skip
      refine gw_iconst (q := 104) hc dX5_order_103 rfl ?_
      refine gw_istore_n (q := 105) hc dX5_order_104 rfl rfl xs_3 (by decide) (n2p xg_2 rfl) ?_
      refine gw_iload_n (q := 106) hc dX5_order_105 rfl rfl xg_3 ?_
      refine gw_tableIn (t := 170) hc dX5_order_106 (by decide) (by decide) (by rfl) (by decide) ?_
      refine gw_new (q := 173) (fs := [.null, .int (iI 0), .int (iI 0)]) hc dX5_order_170 rfl cE_OR q1153 q1154 q97 (fun j hj => by rcases (by omega : j = 0 ∨ j = 1 ∨ j = 2) with rfl | rfl | rfl <;> rfl) (bc' := 0) (bs' := 0) (Nat.le_of_ble_eq_true rfl) (Nat.le_of_ble_eq_true rfl) (fun x hnx hbx => ?_)
      have hxr : x ≠ rd := fun z => by rw [z, hR] at hnx; cases hnx
      have hRx := gup_k (e' := oE 6 [.null, .int (iI 0), .int (iI 0)]) hR hnx
      have hEx := gup_k (e' := oE 6 [.null, .int (iI 0), .int (iI 0)]) hE hnx
      have hSx := sb_nw (c := oE 6 [.null, .int (iI 0), .int (iI 0)]) hS hnx
      refine gw_dup (q := 174) hc dX5_order_173 rfl rfl ?_
      refine gw_aload_n (q := 175) hc dX5_order_174 rfl rfl xg_1 ?_
      refine gw_aload_n (q := 176) hc dX5_order_175 rfl rfl xg_0 ?_
      refine gw_callV (q := 179) (bc' := 0) (bs' := 0) (As := []) hc dX5_order_176 rfl q1191 mw_X5_number (rc_o hc cE_RE hRx) rfl rfl (m_X5_number hRx hEx hSx hp (by omega)) ⟨Nat.le_of_ble_eq_true rfl, Nat.le_of_ble_eq_true rfl⟩ (Nat.le_of_ble_eq_true rfl) (Nat.le_of_ble_eq_true rfl) (Nat.le_of_ble_eq_true rfl) (goI fun r176 G176 h176 => ?_)
      obtain ⟨er176, hgg⟩ := h176
      rw [hgg, er176]
      have hXx : gup (gup G x (oE 6 [.null, .int (iI 0), .int (iI 0)])) rd (rdO ol (nmS Pd ln sp) (nmW Pd ln sp) e) x = some (oE 6 [.null, .int (iI 0), .int (iI 0)]) := by rw [gup_n hxr, gup_s]
      refine gw_iconst (q := 180) hc dX5_order_179 rfl ?_
      refine gw_callI (q := 183) (bc' := 0) (bs' := 0) (As := [_, _, _]) hc dX5_order_180 rfl q1166 mw_X7_init rfl rfl (m_X7_init hXx) ⟨Nat.le_of_ble_eq_true rfl, Nat.le_of_ble_eq_true rfl⟩ (Nat.le_of_ble_eq_true rfl) (Nat.le_of_ble_eq_true rfl) (Nat.le_of_ble_eq_true rfl) (goV fun G180 h180 => ?_)
      subst h180
      refine gw_goto (q := 199) hc dX5_order_183 (by decide) ?_
      exact gw_aret hc rfl (by first | exact Or.inl ⟨_, rfl⟩ | exact Or.inr ⟨_, rfl⟩) dX5_order_199 ⟨_, rfl, ⟨hnx, hxr, by rw [(or_2 (Or.inr rfl)).1, (or_2 (Or.inr rfl)).2.1, (or_2 (Or.inr rfl)).2.2.1, (or_2 (Or.inr rfl)).2.2.2]; exact gup_xr hxr⟩⟩
  · skip
    refine gw_lookup (off := 97) (t := 105) hc dX5_order_8 (by decide) (by decide) (by rfl) (by decide) ?_
    refine gw_iload_n (q := 106) hc dX5_order_105 rfl rfl xg_3 ?_
    refine gw_tableOut (t := 186) hc dX5_order_106 (by decide) (by decide) (by decide) ?_
    refine gw_new (q := 189) (fs := [.null, .int (iI 0), .int (iI 0)]) hc dX5_order_186 rfl cE_OR q1153 q1154 q97 (fun j hj => by rcases (by omega : j = 0 ∨ j = 1 ∨ j = 2) with rfl | rfl | rfl <;> rfl) (bc' := 0) (bs' := 0) (Nat.le_of_ble_eq_true rfl) (Nat.le_of_ble_eq_true rfl) (fun x hnx hbx => ?_)
    have hxr : x ≠ rd := fun z => by rw [z, hR] at hnx; cases hnx
    have hRx := gup_k (e' := oE 6 [.null, .int (iI 0), .int (iI 0)]) hR hnx
    have hEx := gup_k (e' := oE 6 [.null, .int (iI 0), .int (iI 0)]) hE hnx
    have hSx := sb_nw (c := oE 6 [.null, .int (iI 0), .int (iI 0)]) hS hnx
    refine gw_dup (q := 190) hc dX5_order_189 rfl rfl ?_
    refine gw_aload_n (q := 191) hc dX5_order_190 rfl rfl xg_1 ?_
    refine gw_aload_n (q := 192) hc dX5_order_191 rfl rfl xg_0 ?_
    refine gw_callV (q := 195) (bc' := 0) (bs' := 0) (As := []) hc dX5_order_192 rfl q1162 mw_X5_digit (rc_o hc cE_RE hRx) rfl rfl (m_X5_digit hRx hEx hSx hp (by omega) (Or.inl rfl)) ⟨Nat.le_of_ble_eq_true rfl, Nat.le_of_ble_eq_true rfl⟩ (Nat.le_of_ble_eq_true rfl) (Nat.le_of_ble_eq_true rfl) (Nat.le_of_ble_eq_true rfl) (goI fun r192 G192 h192 => ?_)
    obtain ⟨er192, hgg⟩ := h192
    rw [hgg, er192]
    rcases (by omega : dg Pd ln sp < 0 ∨ 0 ≤ dg Pd ln sp) with c4d | c4d
    · rw [if_neg (by omega), if_neg (by omega), if_neg (by omega)]
      have hXx : gup (gup G x (oE 6 [.null, .int (iI 0), .int (iI 0)])) rd (rdO ol (sp) (1) e) x = some (oE 6 [.null, .int (iI 0), .int (iI 0)]) := by rw [gup_n hxr, gup_s]
      refine gw_iconst (q := 196) hc dX5_order_195 rfl ?_
      refine gw_callI (q := 199) (bc' := 0) (bs' := 0) (As := [_, _, _]) hc dX5_order_196 rfl q1166 mw_X7_init rfl rfl (m_X7_init hXx) ⟨Nat.le_of_ble_eq_true rfl, Nat.le_of_ble_eq_true rfl⟩ (Nat.le_of_ble_eq_true rfl) (Nat.le_of_ble_eq_true rfl) (Nat.le_of_ble_eq_true rfl) (goV fun G196 h196 => ?_)
      subst h196
      exact gw_aret hc rfl (by first | exact Or.inl ⟨_, rfl⟩ | exact Or.inr ⟨_, rfl⟩) dX5_order_199 ⟨_, rfl, ⟨hnx, hxr, by rw [(or_4 (Or.inl rfl)).1, (or_4 (Or.inl rfl)).2.1, (or_4 (Or.inl rfl)).2.2.1, (or_4 (Or.inl rfl)).2.2.2]; unfold ldA; rw [if_pos (by omega), if_pos (by omega), if_pos (by omega)]; exact gup_xr hxr⟩⟩
    · rw [if_pos ⟨rfl, by omega⟩, if_pos ⟨rfl, by omega⟩, if_pos ⟨rfl, by omega⟩]
      have hXx : gup (gup G x (oE 6 [.null, .int (iI 0), .int (iI 0)])) rd (rdO ol (sp + 1) (0) e) x = some (oE 6 [.null, .int (iI 0), .int (iI 0)]) := by rw [gup_n hxr, gup_s]
      refine gw_iconst (q := 196) hc dX5_order_195 rfl ?_
      refine gw_callI (q := 199) (bc' := 0) (bs' := 0) (As := [_, _, _]) hc dX5_order_196 rfl q1166 mw_X7_init rfl rfl (m_X7_init hXx) ⟨Nat.le_of_ble_eq_true rfl, Nat.le_of_ble_eq_true rfl⟩ (Nat.le_of_ble_eq_true rfl) (Nat.le_of_ble_eq_true rfl) (Nat.le_of_ble_eq_true rfl) (goV fun G196 h196 => ?_)
      subst h196
      exact gw_aret hc rfl (by first | exact Or.inl ⟨_, rfl⟩ | exact Or.inr ⟨_, rfl⟩) dX5_order_199 ⟨_, rfl, ⟨hnx, hxr, by rw [(or_4 (Or.inl rfl)).1, (or_4 (Or.inl rfl)).2.1, (or_4 (Or.inl rfl)).2.2.1, (or_4 (Or.inl rfl)).2.2.2]; unfold ldA; rw [if_neg (by omega), if_neg (by omega), if_neg (by omega)]; exact gup_xr hxr⟩⟩
  · skip
    refine gw_lookup (off := 97) (t := 105) hc dX5_order_8 (by decide) (by decide) (by rfl) (by decide) ?_
    refine gw_iload_n (q := 106) hc dX5_order_105 rfl rfl xg_3 ?_
    refine gw_tableOut (t := 186) hc dX5_order_106 (by decide) (by decide) (by decide) ?_
    refine gw_new (q := 189) (fs := [.null, .int (iI 0), .int (iI 0)]) hc dX5_order_186 rfl cE_OR q1153 q1154 q97 (fun j hj => by rcases (by omega : j = 0 ∨ j = 1 ∨ j = 2) with rfl | rfl | rfl <;> rfl) (bc' := 0) (bs' := 0) (Nat.le_of_ble_eq_true rfl) (Nat.le_of_ble_eq_true rfl) (fun x hnx hbx => ?_)
    have hxr : x ≠ rd := fun z => by rw [z, hR] at hnx; cases hnx
    have hRx := gup_k (e' := oE 6 [.null, .int (iI 0), .int (iI 0)]) hR hnx
    have hEx := gup_k (e' := oE 6 [.null, .int (iI 0), .int (iI 0)]) hE hnx
    have hSx := sb_nw (c := oE 6 [.null, .int (iI 0), .int (iI 0)]) hS hnx
    refine gw_dup (q := 190) hc dX5_order_189 rfl rfl ?_
    refine gw_aload_n (q := 191) hc dX5_order_190 rfl rfl xg_1 ?_
    refine gw_aload_n (q := 192) hc dX5_order_191 rfl rfl xg_0 ?_
    refine gw_callV (q := 195) (bc' := 0) (bs' := 0) (As := []) hc dX5_order_192 rfl q1162 mw_X5_digit (rc_o hc cE_RE hRx) rfl rfl (m_X5_digit hRx hEx hSx hp (by omega) (Or.inl rfl)) ⟨Nat.le_of_ble_eq_true rfl, Nat.le_of_ble_eq_true rfl⟩ (Nat.le_of_ble_eq_true rfl) (Nat.le_of_ble_eq_true rfl) (Nat.le_of_ble_eq_true rfl) (goI fun r192 G192 h192 => ?_)
    obtain ⟨er192, hgg⟩ := h192
    rw [hgg, er192]
    rcases (by omega : dg Pd ln sp < 0 ∨ 0 ≤ dg Pd ln sp) with c4d | c4d
    · rw [if_neg (by omega), if_neg (by omega), if_neg (by omega)]
      have hXx : gup (gup G x (oE 6 [.null, .int (iI 0), .int (iI 0)])) rd (rdO ol (sp) (1) e) x = some (oE 6 [.null, .int (iI 0), .int (iI 0)]) := by rw [gup_n hxr, gup_s]
      refine gw_iconst (q := 196) hc dX5_order_195 rfl ?_
      refine gw_callI (q := 199) (bc' := 0) (bs' := 0) (As := [_, _, _]) hc dX5_order_196 rfl q1166 mw_X7_init rfl rfl (m_X7_init hXx) ⟨Nat.le_of_ble_eq_true rfl, Nat.le_of_ble_eq_true rfl⟩ (Nat.le_of_ble_eq_true rfl) (Nat.le_of_ble_eq_true rfl) (Nat.le_of_ble_eq_true rfl) (goV fun G196 h196 => ?_)
      subst h196
      exact gw_aret hc rfl (by first | exact Or.inl ⟨_, rfl⟩ | exact Or.inr ⟨_, rfl⟩) dX5_order_199 ⟨_, rfl, ⟨hnx, hxr, by rw [(or_4 (Or.inr rfl)).1, (or_4 (Or.inr rfl)).2.1, (or_4 (Or.inr rfl)).2.2.1, (or_4 (Or.inr rfl)).2.2.2]; unfold ldA; rw [if_pos (by omega), if_pos (by omega), if_pos (by omega)]; exact gup_xr hxr⟩⟩
    · rw [if_pos ⟨rfl, by omega⟩, if_pos ⟨rfl, by omega⟩, if_pos ⟨rfl, by omega⟩]
      have hXx : gup (gup G x (oE 6 [.null, .int (iI 0), .int (iI 0)])) rd (rdO ol (sp + 1) (0) e) x = some (oE 6 [.null, .int (iI 0), .int (iI 0)]) := by rw [gup_n hxr, gup_s]
      refine gw_iconst (q := 196) hc dX5_order_195 rfl ?_
      refine gw_callI (q := 199) (bc' := 0) (bs' := 0) (As := [_, _, _]) hc dX5_order_196 rfl q1166 mw_X7_init rfl rfl (m_X7_init hXx) ⟨Nat.le_of_ble_eq_true rfl, Nat.le_of_ble_eq_true rfl⟩ (Nat.le_of_ble_eq_true rfl) (Nat.le_of_ble_eq_true rfl) (Nat.le_of_ble_eq_true rfl) (goV fun G196 h196 => ?_)
      subst h196
      exact gw_aret hc rfl (by first | exact Or.inl ⟨_, rfl⟩ | exact Or.inr ⟨_, rfl⟩) dX5_order_199 ⟨_, rfl, ⟨hnx, hxr, by rw [(or_4 (Or.inr rfl)).1, (or_4 (Or.inr rfl)).2.1, (or_4 (Or.inr rfl)).2.2.1, (or_4 (Or.inr rfl)).2.2.2]; unfold ldA; rw [if_neg (by omega), if_neg (by omega), if_neg (by omega)]; exact gup_xr hxr⟩⟩

