/-! ===== THE CLASS: loads, meters ===== -/
set_option maxRecDepth 100000
abbrev loO (pw mt on : Int) : va_E := oE 4 [.int (iI pw), .int (iI mt), .int (iI on)]
abbrev mtO (no : Int) (th : Value) (fd ld : Nat) (w pl sp ag dy nt bd bn bl vs se br fl : Int) : va_E := oE 3 [.int (iI no), th, .ref fd, .ref ld, .int (iI w), .int (iI pl), .int (iI sp), .int (iI ag), .int (iI dy), .int (iI nt), .int (iI bd), .int (iI bn), .int (iI bl), .int (iI vs), .int (iI se), .int (iI br), .long (jI fl)]
/-- where a disc goes, by the settings g -/
def gN (g : Int → Int) (w pl sp br : Int) : Int :=
  if g 0 < w then pl + (if br = 1 then w * sp / 100 / 2 else w * sp / 100)
  else if 0 < w ∨ br = 1 then pl
  else if g 2 = 0 then pl + g 1
  else if 6000 < (if pl = 0 then 0 else pl + g 1) then 6000
  else if pl = 0 then 0 else pl + g 1
theorem goF_gN {S : Int → Int} {p m w : Int} : goF S p m w = gN (fun i => S (p + i)) w (S (p + 11 + 13 * m + 1)) (S (p + 11 + 13 * m + 2)) (S (p + 11 + 13 * m + 7)) := rfl
def crN (by' hole pl : Int) : Int := if hole = 0 then pl + by' else if 0 < pl then (if pl + by' < 6000 then pl + by' else 6000) else pl
def agN (older ag : Int) : Int := if older ≤ ag + 1 then 0 else ag + 1
def spN (older ag sp : Int) : Int := if older ≤ ag + 1 then (if sp + 1 < 160 then sp + 1 else 160) else sp

set_option maxHeartbeats 4000000 in
theorem m_X4_init {l : Launch} {D : va_G} {X : Nat → Nat} {b0 : Nat} {a : Nat} {G : gM} {pw mt on : Int} (hG : G a = some (loO pw mt on)) {x y : Int} : gMet l D X b0 yX4_init cX4_init 3 none (rmE 1 0 0) [.ref a, .int (iI x), .int (iI y)] G (eV (gup G a (loO y x on))) := by
  refine gm_start (own := "EnergyDiscs$Load") (lv := [some (.ref a), some (.int (iI x)), some (.int (iI y))]) (by decide +kernel) rfl (Nat.le_of_ble_eq_true rfl) rfl (fun p_ e_ s_ m_ args_ below_ meth_ c_ hc hnm => ?_)
  refine gw_aload_n (q := 1) hc dX4_init_0 rfl rfl xg_0 ?_
  refine gw_objInit (q := 4) hc dX4_init_1 rfl q504 (Nat.le_of_ble_eq_true rfl) (Nat.le_of_ble_eq_true rfl) ?_
  refine gw_aload_n (q := 5) hc dX4_init_4 rfl rfl xg_0 ?_
  refine gw_iload_n (q := 6) hc dX4_init_5 rfl rfl xg_1 ?_
  refine gw_putF (q := 9) hc dX4_init_6 rfl cE_LO 1 (by decide) q508 (fun _ h => h) rfl hnm rfl hG ⟨rfl, rfl⟩ rfl (Nat.le_of_ble_eq_true rfl) ?_
  refine gw_aload_n (q := 10) hc dX4_init_9 rfl rfl xg_0 ?_
  refine gw_iload_n (q := 11) hc dX4_init_10 rfl rfl xg_2 ?_
  refine gw_putF (q := 14) hc dX4_init_11 rfl cE_LO 0 (by decide) q505 (fun _ h => h) rfl hnm rfl gup_s ⟨rfl, rfl⟩ rfl (Nat.le_of_ble_eq_true rfl) ?_
  refine gw_G gup_gup ?_
  exact gw_vret hc dX4_init_14 ⟨rfl, rfl⟩

theorem mw_X4_init : mI yX4_init cX4_init 3 2 := ⟨⟨rfl, by decide +kernel, by decide +kernel, by decide +kernel⟩, q502, q91, q503⟩
set_option maxHeartbeats 4000000 in
theorem m_X4_copy {l : Launch} {D : va_G} {X : Nat → Nat} {b0 : Nat} {a : Nat} {G : gM} {pw mt on : Int} (hG : G a = some (loO pw mt on)) (hon : on = 0 ∨ on = 1) : gMet l D X b0 yX4_copy cX4_copy 2 (some (FieldType.object "EnergyDiscs$Load")) (rmE 2 1 3) [.ref a] G (pA fun r G' => G r = none ∧ G' = gup G r (loO pw mt on)) := by
  refine gm_start (own := "EnergyDiscs$Load") (lv := [some (.ref a), none]) (by decide +kernel) rfl (Nat.le_of_ble_eq_true rfl) rfl (fun p_ e_ s_ m_ args_ below_ meth_ c_ hc hnm => ?_)
  refine gw_new (q := 3) (fs := [.int (iI 0), .int (iI 0), .int (iI 0)]) hc dX4_copy_0 rfl cE_LO q499 q500 q91 (fun j hj => by rcases (by omega : j = 0 ∨ j = 1 ∨ j = 2) with rfl | rfl | rfl <;> rfl) (bc' := 0) (bs' := 0) (Nat.le_of_ble_eq_true rfl) (Nat.le_of_ble_eq_true rfl) (fun x hnx hbx => ?_)
  refine gw_dup (q := 4) hc dX4_copy_3 rfl rfl ?_
  refine gw_aload_n (q := 5) hc dX4_copy_4 rfl rfl xg_0 ?_
  refine gw_get (q := 8) hc dX4_copy_5 rfl cE_LO 1 (by decide) q508 (fun _ h => h) (gup_k hG hnx) rfl ?_
  refine gw_aload_n (q := 9) hc dX4_copy_8 rfl rfl xg_0 ?_
  refine gw_get (q := 12) hc dX4_copy_9 rfl cE_LO 0 (by decide) q505 (fun _ h => h) (gup_k hG hnx) rfl ?_
  refine gw_callI (q := 15) (bc' := 0) (bs' := 0) (As := [_, _]) hc dX4_copy_12 rfl q501 mw_X4_init rfl rfl (m_X4_init gup_s) ⟨Nat.le_of_ble_eq_true rfl, Nat.le_of_ble_eq_true rfl⟩ (Nat.le_of_ble_eq_true rfl) (Nat.le_of_ble_eq_true rfl) (Nat.le_of_ble_eq_true rfl) (goV fun G12 h12 => ?_)
  subst h12
  refine gw_G gup_gup ?_
  refine gw_astore_n (q := 16) hc dX4_copy_15 rfl rfl xs_1 (by decide) (n2p xg_0 rfl) ?_
  refine gw_aload_n (q := 17) hc dX4_copy_16 rfl rfl xg_1 ?_
  refine gw_aload_n (q := 18) hc dX4_copy_17 rfl rfl xg_0 ?_
  refine gw_get (q := 21) hc dX4_copy_18 rfl cE_LO 2 (by decide) q511 (fun _ h => h) (gup_k hG hnx) rfl ?_
  refine gw_put (q := 24) hc dX4_copy_21 rfl cE_LO 2 (by decide) q511 (fun _ h => h) rfl gup_s (nz (by omega)) rfl (Nat.le_of_ble_eq_true rfl) ?_
  refine gw_G gup_gup ?_
  refine gw_aload_n (q := 25) hc dX4_copy_24 rfl rfl xg_1 ?_
  exact gw_aret hc rfl (by first | exact Or.inl ⟨_, rfl⟩ | exact Or.inr ⟨_, rfl⟩) dX4_copy_25 ⟨_, rfl, ⟨hnx, rfl⟩⟩

set_option maxHeartbeats 4000000 in
theorem m_X3_bill {l : Launch} {D : va_G} {X : Nat → Nat} {b0 : Nat} {a : Nat} {no : Int} {th : Value} {fd ld : Nat} {w pl sp ag dy nt bd bn bl vs se br fl : Int} {G : gM} (hG : G a = some (mtO no th fd ld w pl sp ag dy nt bd bn bl vs se br fl)) {x y : Int} : gMet l D X b0 yX3_bill cX3_bill 3 (some FieldType.int) (rmE 0 0 0) [.ref a, .int (iI x), .int (iI y)] G (eI (x * (dy - bd) + y * (nt - bn)) G) := by
  refine gm_start (own := "EnergyDiscs$Meter") (lv := [some (.ref a), some (.int (iI x)), some (.int (iI y))]) (by decide +kernel) rfl (Nat.le_of_ble_eq_true rfl) rfl (fun p_ e_ s_ m_ args_ below_ meth_ c_ hc hnm => ?_)
  refine gw_iload_n (q := 1) hc dX3_bill_0 rfl rfl xg_1 ?_
  refine gw_aload_n (q := 2) hc dX3_bill_1 rfl rfl xg_0 ?_
  refine gw_get (q := 5) hc dX3_bill_2 rfl cE_ME 8 (by decide) q429 (fun _ h => h) hG rfl ?_
  refine gw_aload_n (q := 6) hc dX3_bill_5 rfl rfl xg_0 ?_
  refine gw_get (q := 9) hc dX3_bill_6 rfl cE_ME 10 (by decide) q435 (fun _ h => h) hG rfl ?_
  refine gw_isub (q := 10) hc dX3_bill_9 rfl ?_
  refine gw_imul (q := 11) hc dX3_bill_10 rfl ?_
  refine gw_iload_n (q := 12) hc dX3_bill_11 rfl rfl xg_2 ?_
  refine gw_aload_n (q := 13) hc dX3_bill_12 rfl rfl xg_0 ?_
  refine gw_get (q := 16) hc dX3_bill_13 rfl cE_ME 9 (by decide) q432 (fun _ h => h) hG rfl ?_
  refine gw_aload_n (q := 17) hc dX3_bill_16 rfl rfl xg_0 ?_
  refine gw_get (q := 20) hc dX3_bill_17 rfl cE_ME 11 (by decide) q437 (fun _ h => h) hG rfl ?_
  refine gw_isub (q := 21) hc dX3_bill_20 rfl ?_
  refine gw_imul (q := 22) hc dX3_bill_21 rfl ?_
  refine gw_iadd (q := 23) hc dX3_bill_22 rfl ?_
  exact gw_iret hc dX3_bill_23 ⟨_, rfl, ⟨rfl, rfl⟩⟩

set_option maxHeartbeats 4000000 in
theorem m_X3_turns {l : Launch} {D : va_G} {X : Nat → Nat} {b0 : Nat} {a : Nat} {no : Int} {th : Value} {fd ld : Nat} {w pl sp ag dy nt bd bn bl vs se br fl : Int} {G : gM} (hG : G a = some (mtO no th fd ld w pl sp ag dy nt bd bn bl vs se br fl)) : gMet l D X b0 yX3_turns cX3_turns 1 (some FieldType.int) (rmE 0 0 0) [.ref a] G (eI (dy + nt) G) := by
  refine gm_start (own := "EnergyDiscs$Meter") (lv := [some (.ref a)]) (by decide +kernel) rfl (Nat.le_of_ble_eq_true rfl) rfl (fun p_ e_ s_ m_ args_ below_ meth_ c_ hc hnm => ?_)
  refine gw_aload_n (q := 1) hc dX3_turns_0 rfl rfl xg_0 ?_
  refine gw_get (q := 4) hc dX3_turns_1 rfl cE_ME 8 (by decide) q429 (fun _ h => h) hG rfl ?_
  refine gw_aload_n (q := 5) hc dX3_turns_4 rfl rfl xg_0 ?_
  refine gw_get (q := 8) hc dX3_turns_5 rfl cE_ME 9 (by decide) q432 (fun _ h => h) hG rfl ?_
  refine gw_iadd (q := 9) hc dX3_turns_8 rfl ?_
  exact gw_iret hc dX3_turns_9 ⟨_, rfl, ⟨rfl, rfl⟩⟩

theorem mw_X3_turns : mV "EnergyDiscs$Meter" yX3_turns cX3_turns 1 (some FieldType.int) 0 := ⟨⟨rfl, by decide +kernel, by decide +kernel, by decide +kernel⟩, q909, q910, q87, q911⟩
set_option maxHeartbeats 4000000 in
theorem m_X3_misses {l : Launch} {D : va_G} {X : Nat → Nat} {b0 : Nat} {a : Nat} {no : Int} {th : Value} {fd ld : Nat} {w pl sp ag dy nt bd bn bl vs se br fl : Int} {G : gM} (hG : G a = some (mtO no th fd ld w pl sp ag dy nt bd bn bl vs se br fl)) (ht : rI (dy + nt)) (hp : rI pl) : gMet l D X b0 yX3_misses cX3_misses 1 (some FieldType.long) (rmE 1 0 0) [.ref a] G (eJ (fl - 6000 * (dy + nt) - pl) G) := by
  refine gm_start (own := "EnergyDiscs$Meter") (lv := [some (.ref a)]) (by decide +kernel) rfl (Nat.le_of_ble_eq_true rfl) rfl (fun p_ e_ s_ m_ args_ below_ meth_ c_ hc hnm => ?_)
  refine gw_aload_n (q := 1) hc dX3_misses_0 rfl rfl xg_0 ?_
  refine gw_get (q := 4) hc dX3_misses_1 rfl cE_ME 16 (by decide) q451 (fun _ h => h) hG rfl ?_
  refine gw_ldc2 (q := 7) hc dX3_misses_4 rfl (v := 6000) q907 (by decide) ?_
  refine gw_aload_n (q := 8) hc dX3_misses_7 rfl rfl xg_0 ?_
  refine gw_callV (q := 11) (bc' := 0) (bs' := 0) (As := []) hc dX3_misses_8 rfl q908 mw_X3_turns (rc_o hc cE_ME hG) rfl rfl (m_X3_turns hG) ⟨Nat.le_of_ble_eq_true rfl, Nat.le_of_ble_eq_true rfl⟩ (Nat.le_of_ble_eq_true rfl) (Nat.le_of_ble_eq_true rfl) (Nat.le_of_ble_eq_true rfl) (goI fun r8 G8 h8 => ?_)
  obtain ⟨rfl, rfl⟩ := h8
  refine gw_i2l (q := 12) hc dX3_misses_11 rfl (by omega) ?_
  refine gw_lmul (q := 13) hc dX3_misses_12 rfl ?_
  refine gw_lsub (q := 14) hc dX3_misses_13 rfl ?_
  refine gw_aload_n (q := 15) hc dX3_misses_14 rfl rfl xg_0 ?_
  refine gw_get (q := 18) hc dX3_misses_15 rfl cE_ME 5 (by decide) q421 (fun _ h => h) hG rfl ?_
  refine gw_i2l (q := 19) hc dX3_misses_18 rfl (by omega) ?_
  refine gw_lsub (q := 20) hc dX3_misses_19 rfl ?_
  exact gw_lret hc dX3_misses_20 ⟨_, rfl, ⟨rfl, rfl⟩⟩

set_option maxHeartbeats 4000000 in
theorem m_X3_creep {l : Launch} {D : va_G} {X : Nat → Nat} {b0 : Nat} {a : Nat} {no : Int} {th : Value} {fd ld : Nat} {w pl sp ag dy nt bd bn bl vs se br fl : Int} {G : gM} (hG : G a = some (mtO no th fd ld w pl sp ag dy nt bd bn bl vs se br fl)) {x z : Int} (hx : 0 ≤ x ∧ x ≤ 9) (hz : z = 0 ∨ z = 1) (hp : 0 ≤ pl ∧ pl < 6000) : gMet l D X b0 yX3_creep cX3_creep 3 none (rmE 1 0 0) [.ref a, .int (iI x), .int (iI z)] G (eV (gup G a (mtO no th fd ld w (crN x z pl) sp ag dy nt bd bn bl vs se br fl))) := by
  refine gm_start (own := "EnergyDiscs$Meter") (lv := [some (.ref a), some (.int (iI x)), some (.int (iI z))]) (by decide +kernel) rfl (Nat.le_of_ble_eq_true rfl) rfl (fun p_ e_ s_ m_ args_ below_ meth_ c_ hc hnm => ?_)
  refine gw_iload_n (q := 1) hc dX3_creep_0 rfl rfl xg_2 ?_
  refine gw_if_ne  (q := 4) (t := 17) hc dX3_creep_1 rfl (by decide) (by omega) (fun c1 => ?_) (fun c1 => ?_)
  · skip
    refine gw_aload_n (q := 18) hc dX3_creep_17 rfl rfl xg_0 ?_
    refine gw_get (q := 21) hc dX3_creep_18 rfl cE_ME 5 (by decide) q421 (fun _ h => h) hG rfl ?_
    refine gw_if_le  (q := 24) (t := 40) hc dX3_creep_21 rfl (by decide) (by omega) (fun c21 => ?_) (fun c21 => ?_)
    · skip
      exact gw_vret hc dX3_creep_40 ⟨rfl, (gup_id (show G a = some (mtO no th fd ld w (crN x z pl) sp ag dy nt bd bn bl vs se br fl) from by rw [show crN x z pl = pl from by unfold crN; (repeat' split) <;> omega]; exact hG)).symm⟩
    · skip
      refine gw_aload_n (q := 25) hc dX3_creep_24 rfl rfl xg_0 ?_
      refine gw_sipush (q := 28) hc dX3_creep_25 rfl (by decide) ?_
      refine gw_aload_n (q := 29) hc dX3_creep_28 rfl rfl xg_0 ?_
      refine gw_get (q := 32) hc dX3_creep_29 rfl cE_ME 5 (by decide) q421 (fun _ h => h) hG rfl ?_
      refine gw_iload_n (q := 33) hc dX3_creep_32 rfl rfl xg_1 ?_
      refine gw_iadd (q := 34) hc dX3_creep_33 rfl ?_
      refine gw_mmin (q := 37) hc dX3_creep_34 rfl q675 (by omega) (by omega) (Nat.le_of_ble_eq_true rfl) (Nat.le_of_ble_eq_true rfl) ?_
      refine gw_put (q := 40) hc dX3_creep_37 rfl cE_ME 5 (by decide) q421 (fun _ h => h) rfl hG ⟨rfl, rfl⟩ rfl (Nat.le_of_ble_eq_true rfl) ?_
      exact gw_vret hc dX3_creep_40 ⟨rfl, by unfold crN; (repeat' split) <;> first | rfl | omega⟩
  · skip
    refine gw_aload_n (q := 5) hc dX3_creep_4 rfl rfl xg_0 ?_
    refine gw_dup (q := 6) hc dX3_creep_5 rfl rfl ?_
    refine gw_get (q := 9) hc dX3_creep_6 rfl cE_ME 5 (by decide) q421 (fun _ h => h) hG rfl ?_
    refine gw_iload_n (q := 10) hc dX3_creep_9 rfl rfl xg_1 ?_
    refine gw_iadd (q := 11) hc dX3_creep_10 rfl ?_
    refine gw_put (q := 14) hc dX3_creep_11 rfl cE_ME 5 (by decide) q421 (fun _ h => h) rfl hG ⟨rfl, rfl⟩ rfl (Nat.le_of_ble_eq_true rfl) ?_
    refine gw_goto (q := 40) hc dX3_creep_14 (by decide) ?_
    exact gw_vret hc dX3_creep_40 ⟨rfl, by unfold crN; (repeat' split) <;> first | rfl | omega⟩

theorem mw_X3_creep : mV "EnergyDiscs$Meter" yX3_creep cX3_creep 3 none 2 := ⟨⟨rfl, by decide +kernel, by decide +kernel, by decide +kernel⟩, q673, qs20, q87, q674⟩
set_option maxHeartbeats 4000000 in
theorem m_X3_move {l : Launch} {D : va_G} {X : Nat → Nat} {b0 : Nat} {a : Nat} {no : Int} {th : Value} {fd ld : Nat} {w pl sp ag dy nt bd bn bl vs se br fl : Int} {G : gM} (hG : G a = some (mtO no th fd ld w pl sp ag dy nt bd bn bl vs se br fl)) {ss : Nat} {g : Int → Int} (hS : G ss = some (iA D 6 g)) (g0 : rI (g 0)) (g1 : 0 ≤ g 1 ∧ g 1 ≤ 9) (g2 : 0 ≤ g 2 ∧ g 2 ≤ 1) (hw : 0 ≤ w ∧ w ≤ 48000) (hp : 0 ≤ pl ∧ pl < 6000) (hs : 100 ≤ sp ∧ sp ≤ 160) (hb : br = 0 ∨ br = 1) : gMet l D X b0 yX3_move cX3_move 3 none (rmE 2 0 0) [.ref a, .ref ss] G (eV (gup G a (mtO no th fd ld w (gN g w pl sp br) sp ag dy nt bd bn bl vs se br fl))) := by
  refine gm_start (own := "EnergyDiscs$Meter") (lv := [some (.ref a), some (.ref ss), none]) (by decide +kernel) rfl (Nat.le_of_ble_eq_true rfl) rfl (fun p_ e_ s_ m_ args_ below_ meth_ c_ hc hnm => ?_)
  have hws : 0 ≤ w * sp ∧ w * sp ≤ 48000 * 160 := ⟨Int.mul_nonneg hw.1 (by omega), Int.mul_le_mul hw.2 hs.2 (by omega) (by omega)⟩
  refine gw_aload_n (q := 1) hc dX3_move_0 rfl rfl xg_0 ?_
  refine gw_get (q := 4) hc dX3_move_1 rfl cE_ME 4 (by decide) q419 (fun _ h => h) hG rfl ?_
  refine gw_aload_n (q := 5) hc dX3_move_4 rfl rfl xg_1 ?_
  refine gw_iconst (q := 6) hc dX3_move_5 rfl ?_
  refine gw_iald (q := 7) hc dX3_move_6 rfl hS (by omega) (by omega) ?_
  refine gw_icmp_le  (q := 10) (t := 49) hc dX3_move_7 rfl (by decide) (by omega) (by omega) (fun c7 => ?_) (fun c7 => ?_)
  · skip
    refine gw_aload_n (q := 50) hc dX3_move_49 rfl rfl xg_0 ?_
    refine gw_get (q := 53) hc dX3_move_50 rfl cE_ME 4 (by decide) q419 (fun _ h => h) hG rfl ?_
    refine gw_if_ne  (q := 56) (t := 82) hc dX3_move_53 rfl (by decide) (by omega) (fun c53 => ?_) (fun c53 => ?_)
    · skip
      exact gw_vret hc dX3_move_82 ⟨rfl, (gup_id (show G a = some (mtO no th fd ld w (gN g w pl sp br) sp ag dy nt bd bn bl vs se br fl) from by rw [show gN g w pl sp br = pl from by unfold gN; (repeat' split) <;> omega]; exact hG)).symm⟩
    · skip
      refine gw_aload_n (q := 57) hc dX3_move_56 rfl rfl xg_0 ?_
      refine gw_get (q := 60) hc dX3_move_57 rfl cE_ME 15 (by decide) q448 (fun _ h => h) hG rfl ?_
      refine gw_if_ne  (q := 63) (t := 82) hc dX3_move_60 rfl (by decide) (by omega) (fun c60 => ?_) (fun c60 => ?_)
      · skip
        exact gw_vret hc dX3_move_82 ⟨rfl, (gup_id (show G a = some (mtO no th fd ld w (gN g w pl sp br) sp ag dy nt bd bn bl vs se br fl) from by rw [show gN g w pl sp br = pl from by unfold gN; (repeat' split) <;> omega]; exact hG)).symm⟩
      · skip
        refine gw_aload_n (q := 64) hc dX3_move_63 rfl rfl xg_0 ?_
        refine gw_aload_n (q := 65) hc dX3_move_64 rfl rfl xg_1 ?_
        refine gw_iconst (q := 66) hc dX3_move_65 rfl ?_
        refine gw_iald (q := 67) hc dX3_move_66 rfl hS (by omega) (by omega) ?_
        refine gw_aload_n (q := 68) hc dX3_move_67 rfl rfl xg_1 ?_
        refine gw_iconst (q := 69) hc dX3_move_68 rfl ?_
        refine gw_iald (q := 70) hc dX3_move_69 rfl hS (by omega) (by omega) ?_
        refine gw_iconst (q := 71) hc dX3_move_70 rfl ?_
        refine gw_icmp_ne  (q := 74) (t := 78) hc dX3_move_71 rfl (by decide) (by omega) (by omega) (fun c71 => ?_) (fun c71 => ?_)
        · skip
          refine gw_iconst (q := 79) hc dX3_move_78 rfl ?_
          refine gw_callV (q := 82) (bc' := 0) (bs' := 0) (As := [_, _]) hc dX3_move_79 rfl q671 mw_X3_creep (rc_o hc cE_ME hG) rfl rfl (m_X3_creep hG g1 (by omega) hp) ⟨Nat.le_of_ble_eq_true rfl, Nat.le_of_ble_eq_true rfl⟩ (Nat.le_of_ble_eq_true rfl) (Nat.le_of_ble_eq_true rfl) (Nat.le_of_ble_eq_true rfl) (goV fun G79 h79 => ?_)
          subst h79
          exact gw_vret hc dX3_move_82 ⟨rfl, by rw [show gN g w pl sp br = crN (g 1) 0 pl from by unfold gN crN; (repeat' split) <;> omega]⟩
        · skip
          refine gw_iconst (q := 75) hc dX3_move_74 rfl ?_
          refine gw_goto (q := 79) hc dX3_move_75 (by decide) ?_
          refine gw_callV (q := 82) (bc' := 0) (bs' := 0) (As := [_, _]) hc dX3_move_79 rfl q671 mw_X3_creep (rc_o hc cE_ME hG) rfl rfl (m_X3_creep hG g1 (by omega) hp) ⟨Nat.le_of_ble_eq_true rfl, Nat.le_of_ble_eq_true rfl⟩ (Nat.le_of_ble_eq_true rfl) (Nat.le_of_ble_eq_true rfl) (Nat.le_of_ble_eq_true rfl) (goV fun G79 h79 => ?_)
          subst h79
          exact gw_vret hc dX3_move_82 ⟨rfl, by rw [show gN g w pl sp br = crN (g 1) 1 pl from by unfold gN crN; (repeat' split) <;> omega]⟩
  · skip
    refine gw_aload_n (q := 11) hc dX3_move_10 rfl rfl xg_0 ?_
    refine gw_get (q := 14) hc dX3_move_11 rfl cE_ME 4 (by decide) q419 (fun _ h => h) hG rfl ?_
    refine gw_aload_n (q := 15) hc dX3_move_14 rfl rfl xg_0 ?_
    refine gw_get (q := 18) hc dX3_move_15 rfl cE_ME 6 (by decide) q423 (fun _ h => h) hG rfl ?_
    refine gw_imul (q := 19) hc dX3_move_18 rfl ?_
    refine gw_bipush (q := 21) hc dX3_move_19 rfl (by decide) ?_
    refine gw_idiv (q := 22) hc dX3_move_21 rfl (by omega) (by omega) ?_
    refine gw_istore_n (q := 23) hc dX3_move_22 rfl rfl xs_2 (by decide) (n2p xg_1 rfl) ?_
    refine gw_aload_n (q := 24) hc dX3_move_23 rfl rfl xg_0 ?_
    refine gw_dup (q := 25) hc dX3_move_24 rfl rfl ?_
    refine gw_get (q := 28) hc dX3_move_25 rfl cE_ME 5 (by decide) q421 (fun _ h => h) hG rfl ?_
    refine gw_aload_n (q := 29) hc dX3_move_28 rfl rfl xg_0 ?_
    refine gw_get (q := 32) hc dX3_move_29 rfl cE_ME 15 (by decide) q448 (fun _ h => h) hG rfl ?_
    refine gw_if_eq  (q := 35) (t := 41) hc dX3_move_32 rfl (by decide) (by omega) (fun c32 => ?_) (fun c32 => ?_)
    · skip
      refine gw_iload_n (q := 42) hc dX3_move_41 rfl rfl xg_2 ?_
      refine gw_iadd (q := 43) hc dX3_move_42 rfl ?_
      refine gw_put (q := 46) hc dX3_move_43 rfl cE_ME 5 (by decide) q421 (fun _ h => h) rfl hG ⟨rfl, rfl⟩ rfl (Nat.le_of_ble_eq_true rfl) ?_
      refine gw_goto (q := 82) hc dX3_move_46 (by decide) ?_
      exact gw_vret hc dX3_move_82 ⟨rfl, by rw [show gN g w pl sp br = pl + w * sp / 100 from by unfold gN; (repeat' split) <;> omega]; first | done | rfl⟩
    · skip
      refine gw_iload_n (q := 36) hc dX3_move_35 rfl rfl xg_2 ?_
      refine gw_iconst (q := 37) hc dX3_move_36 rfl ?_
      refine gw_idiv (q := 38) hc dX3_move_37 rfl (by omega) (by omega) ?_
      refine gw_goto (q := 42) hc dX3_move_38 (by decide) ?_
      refine gw_iadd (q := 43) hc dX3_move_42 rfl ?_
      refine gw_put (q := 46) hc dX3_move_43 rfl cE_ME 5 (by decide) q421 (fun _ h => h) rfl hG ⟨rfl, rfl⟩ rfl (Nat.le_of_ble_eq_true rfl) ?_
      refine gw_goto (q := 82) hc dX3_move_46 (by decide) ?_
      exact gw_vret hc dX3_move_82 ⟨rfl, by rw [show gN g w pl sp br = pl + w * sp / 100 / 2 from by unfold gN; (repeat' split) <;> omega]; first | done | rfl⟩

set_option maxHeartbeats 4000000 in
theorem m_X3_grow {l : Launch} {D : va_G} {X : Nat → Nat} {b0 : Nat} {a : Nat} {no : Int} {th : Value} {fd ld : Nat} {w pl sp ag dy nt bd bn bl vs se br fl : Int} {G : gM} (hG : G a = some (mtO no th fd ld w pl sp ag dy nt bd bn bl vs se br fl)) {x : Int} (hx : rI x) (ha : 0 ≤ ag ∧ ag < 100000) (hs : 100 ≤ sp ∧ sp ≤ 160) : gMet l D X b0 yX3_grow cX3_grow 2 none (rmE 1 0 0) [.ref a, .int (iI x)] G (eV (gup G a (mtO no th fd ld w pl (spN x ag sp) (agN x ag) dy nt bd bn bl vs se br fl))) := by
  refine gm_start (own := "EnergyDiscs$Meter") (lv := [some (.ref a), some (.int (iI x))]) (by decide +kernel) rfl (Nat.le_of_ble_eq_true rfl) rfl (fun p_ e_ s_ m_ args_ below_ meth_ c_ hc hnm => ?_)
  refine gw_aload_n (q := 1) hc dX3_grow_0 rfl rfl xg_0 ?_
  refine gw_dup (q := 2) hc dX3_grow_1 rfl rfl ?_
  refine gw_get (q := 5) hc dX3_grow_2 rfl cE_ME 7 (by decide) q426 (fun _ h => h) hG rfl ?_
  refine gw_iconst (q := 6) hc dX3_grow_5 rfl ?_
  refine gw_iadd (q := 7) hc dX3_grow_6 rfl ?_
  refine gw_put (q := 10) hc dX3_grow_7 rfl cE_ME 7 (by decide) q426 (fun _ h => h) rfl hG ⟨rfl, rfl⟩ rfl (Nat.le_of_ble_eq_true rfl) ?_
  refine gw_aload_n (q := 11) hc dX3_grow_10 rfl rfl xg_0 ?_
  refine gw_get (q := 14) hc dX3_grow_11 rfl cE_ME 7 (by decide) q426 (fun _ h => h) gup_s rfl ?_
  refine gw_iload_n (q := 15) hc dX3_grow_14 rfl rfl xg_1 ?_
  refine gw_icmp_lt  (q := 18) (t := 39) hc dX3_grow_15 rfl (by decide) (by omega) (by omega) (fun c15 => ?_) (fun c15 => ?_)
  · skip
    exact gw_vret hc dX3_grow_39 ⟨rfl, by rw [show agN x ag = ag + 1 from by unfold agN; split <;> omega, show spN x ag sp = sp from by unfold spN; (repeat' split) <;> omega]; first | done | rfl⟩
  · skip
    refine gw_aload_n (q := 19) hc dX3_grow_18 rfl rfl xg_0 ?_
    refine gw_iconst (q := 20) hc dX3_grow_19 rfl ?_
    refine gw_put (q := 23) hc dX3_grow_20 rfl cE_ME 7 (by decide) q426 (fun _ h => h) rfl gup_s ⟨rfl, rfl⟩ rfl (Nat.le_of_ble_eq_true rfl) ?_
    refine gw_G gup_gup ?_
    refine gw_aload_n (q := 24) hc dX3_grow_23 rfl rfl xg_0 ?_
    refine gw_sipush (q := 27) hc dX3_grow_24 rfl (by decide) ?_
    refine gw_aload_n (q := 28) hc dX3_grow_27 rfl rfl xg_0 ?_
    refine gw_get (q := 31) hc dX3_grow_28 rfl cE_ME 6 (by decide) q423 (fun _ h => h) gup_s rfl ?_
    refine gw_iconst (q := 32) hc dX3_grow_31 rfl ?_
    refine gw_iadd (q := 33) hc dX3_grow_32 rfl ?_
    refine gw_mmin (q := 36) hc dX3_grow_33 rfl q675 (by omega) (by omega) (Nat.le_of_ble_eq_true rfl) (Nat.le_of_ble_eq_true rfl) ?_
    refine gw_put (q := 39) hc dX3_grow_36 rfl cE_ME 6 (by decide) q423 (fun _ h => h) rfl gup_s ⟨rfl, rfl⟩ rfl (Nat.le_of_ble_eq_true rfl) ?_
    refine gw_G gup_gup ?_
    exact gw_vret hc dX3_grow_39 ⟨rfl, by rw [show agN x ag = 0 from by unfold agN; split <;> omega, show spN x ag sp = if sp + 1 < 160 then sp + 1 else 160 from by unfold spN; (repeat' split) <;> omega]; first | done | rfl⟩

theorem mw_X3_move : mV "EnergyDiscs$Meter" yX3_move cX3_move 3 none 1 := ⟨⟨rfl, by decide +kernel, by decide +kernel, by decide +kernel⟩, q669, qs19, q87, q670⟩
theorem mw_X3_grow : mV "EnergyDiscs$Meter" yX3_grow cX3_grow 2 none 1 := ⟨⟨rfl, by decide +kernel, by decide +kernel, by decide +kernel⟩, q678, qs21, q87, q679⟩
set_option maxHeartbeats 4000000 in
theorem m_X3_pass {l : Launch} {D : va_G} {X : Nat → Nat} {b0 : Nat} {a : Nat} {no : Int} {th : Value} {fd ld : Nat} {w pl sp ag dy nt bd bn bl vs se br fl : Int} {G : gM} (hG : G a = some (mtO no th fd ld w pl sp ag dy nt bd bn bl vs se br fl)) {ss : Nat} {g : Int → Int} (hS : G ss = some (iA D 6 g)) (g0 : rI (g 0)) (g1 : 0 ≤ g 1 ∧ g 1 ≤ 9) (g2 : 0 ≤ g 2 ∧ g 2 ≤ 1) (hw : 0 ≤ w ∧ w ≤ 48000) (hp : 0 ≤ pl ∧ pl < 6000) (hs : 100 ≤ sp ∧ sp ≤ 160) (hb : br = 0 ∨ br = 1) {z : Int} (hz : z = 0 ∨ z = 1) (g3 : rI (g 3)) (ha : 0 ≤ ag ∧ ag < 100000) : gMet l D X b0 yX3_pass cX3_pass 4 (some FieldType.int) (rmE 3 0 0) [.ref a, .int (iI z), .ref ss] G (pI fun r G' => r = gN g w pl sp br / 6000 ∧ G' = gup G a (mtO no th fd ld w (gN g w pl sp br % 6000) (spN (g 3) ag sp) (agN (g 3) ag) (dy + if z = 1 then 0 else gN g w pl sp br / 6000) (nt + if z = 1 then gN g w pl sp br / 6000 else 0) bd bn bl vs se br (fl + w))) := by
  refine gm_start (own := "EnergyDiscs$Meter") (lv := [some (.ref a), some (.int (iI z)), some (.ref ss), none]) (by decide +kernel) rfl (Nat.le_of_ble_eq_true rfl) rfl (fun p_ e_ s_ m_ args_ below_ meth_ c_ hc hnm => ?_)
  have hws : 0 ≤ w * sp ∧ w * sp ≤ 48000 * 160 := ⟨Int.mul_nonneg hw.1 (by omega), Int.mul_le_mul hw.2 hs.2 (by omega) (by omega)⟩
  have hne : ss ≠ a := fun z => by rw [z, hG] at hS; cases hS
  have hgn : 0 ≤ gN g w pl sp br ∧ gN g w pl sp br < 83000 := by unfold gN; (repeat' split) <;> omega
  refine gw_aload_n (q := 1) hc dX3_pass_0 rfl rfl xg_0 ?_
  refine gw_dup (q := 2) hc dX3_pass_1 rfl rfl ?_
  refine gw_get (q := 5) hc dX3_pass_2 rfl cE_ME 16 (by decide) q451 (fun _ h => h) hG rfl ?_
  refine gw_aload_n (q := 6) hc dX3_pass_5 rfl rfl xg_0 ?_
  refine gw_get (q := 9) hc dX3_pass_6 rfl cE_ME 4 (by decide) q419 (fun _ h => h) hG rfl ?_
  refine gw_i2l (q := 10) hc dX3_pass_9 rfl (by omega) ?_
  refine gw_ladd (q := 11) hc dX3_pass_10 rfl ?_
  refine gw_put (q := 14) hc dX3_pass_11 rfl cE_ME 16 (by decide) q451 (fun _ h => h) rfl hG ⟨rfl, rfl⟩ rfl (Nat.le_of_ble_eq_true rfl) ?_
  refine gw_aload_n (q := 15) hc dX3_pass_14 rfl rfl xg_0 ?_
  refine gw_aload_n (q := 16) hc dX3_pass_15 rfl rfl xg_2 ?_
  refine gw_callV (q := 19) (bc' := 0) (bs' := 0) (As := [_]) hc dX3_pass_16 rfl q667 mw_X3_move (rc_o hc cE_ME gup_s) rfl rfl (m_X3_move gup_s ((gup_n hne).trans hS) g0 g1 g2 hw hp hs hb) ⟨Nat.le_of_ble_eq_true rfl, Nat.le_of_ble_eq_true rfl⟩ (Nat.le_of_ble_eq_true rfl) (Nat.le_of_ble_eq_true rfl) (Nat.le_of_ble_eq_true rfl) (goV fun G16 h16 => ?_)
  subst h16
  refine gw_G gup_gup ?_
  refine gw_aload_n (q := 20) hc dX3_pass_19 rfl rfl xg_0 ?_
  refine gw_get (q := 23) hc dX3_pass_20 rfl cE_ME 5 (by decide) q421 (fun _ h => h) gup_s rfl ?_
  refine gw_sipush (q := 26) hc dX3_pass_23 rfl (by decide) ?_
  refine gw_idiv (q := 27) hc dX3_pass_26 rfl (by omega) (by omega) ?_
  refine gw_istore_n (q := 28) hc dX3_pass_27 rfl rfl xs_3 (by decide) (n2p xg_2 rfl) ?_
  refine gw_aload_n (q := 29) hc dX3_pass_28 rfl rfl xg_0 ?_
  refine gw_dup (q := 30) hc dX3_pass_29 rfl rfl ?_
  refine gw_get (q := 33) hc dX3_pass_30 rfl cE_ME 5 (by decide) q421 (fun _ h => h) gup_s rfl ?_
  refine gw_sipush (q := 36) hc dX3_pass_33 rfl (by decide) ?_
  refine gw_irem (q := 37) hc dX3_pass_36 rfl (by omega) (by omega) ?_
  refine gw_put (q := 40) hc dX3_pass_37 rfl cE_ME 5 (by decide) q421 (fun _ h => h) rfl gup_s ⟨rfl, rfl⟩ rfl (Nat.le_of_ble_eq_true rfl) ?_
  refine gw_G gup_gup ?_
  refine gw_aload_n (q := 41) hc dX3_pass_40 rfl rfl xg_0 ?_
  refine gw_dup (q := 42) hc dX3_pass_41 rfl rfl ?_
  refine gw_get (q := 45) hc dX3_pass_42 rfl cE_ME 9 (by decide) q432 (fun _ h => h) gup_s rfl ?_
  refine gw_iload_n (q := 46) hc dX3_pass_45 rfl rfl xg_1 ?_
  refine gw_if_eq  (q := 49) (t := 53) hc dX3_pass_46 rfl (by decide) (by omega) (fun c46 => ?_) (fun c46 => ?_)
  · skip
    refine gw_iconst (q := 54) hc dX3_pass_53 rfl ?_
    refine gw_iadd (q := 55) hc dX3_pass_54 rfl ?_
    refine gw_put (q := 58) hc dX3_pass_55 rfl cE_ME 9 (by decide) q432 (fun _ h => h) rfl gup_s ⟨rfl, rfl⟩ rfl (Nat.le_of_ble_eq_true rfl) ?_
    refine gw_G gup_gup ?_
    refine gw_aload_n (q := 59) hc dX3_pass_58 rfl rfl xg_0 ?_
    refine gw_dup (q := 60) hc dX3_pass_59 rfl rfl ?_
    refine gw_get (q := 63) hc dX3_pass_60 rfl cE_ME 8 (by decide) q429 (fun _ h => h) gup_s rfl ?_
    refine gw_iload_n (q := 64) hc dX3_pass_63 rfl rfl xg_1 ?_
    refine gw_if_eq  (q := 67) (t := 71) hc dX3_pass_64 rfl (by decide) (by omega) (fun c64 => ?_) (fun c64 => ?_)
    · skip
      refine gw_iload_n (q := 72) hc dX3_pass_71 rfl rfl xg_3 ?_
      refine gw_iadd (q := 73) hc dX3_pass_72 rfl ?_
      refine gw_put (q := 76) hc dX3_pass_73 rfl cE_ME 8 (by decide) q429 (fun _ h => h) rfl gup_s ⟨rfl, rfl⟩ rfl (Nat.le_of_ble_eq_true rfl) ?_
      refine gw_G gup_gup ?_
      refine gw_aload_n (q := 77) hc dX3_pass_76 rfl rfl xg_0 ?_
      refine gw_aload_n (q := 78) hc dX3_pass_77 rfl rfl xg_2 ?_
      refine gw_iconst (q := 79) hc dX3_pass_78 rfl ?_
      refine gw_iald (q := 80) hc dX3_pass_79 rfl ((gup_n hne).trans hS) (by omega) (by omega) ?_
      refine gw_callV (q := 83) (bc' := 0) (bs' := 0) (As := [_]) hc dX3_pass_80 rfl q676 mw_X3_grow (rc_o hc cE_ME gup_s) rfl rfl (m_X3_grow gup_s g3 ha hs) ⟨Nat.le_of_ble_eq_true rfl, Nat.le_of_ble_eq_true rfl⟩ (Nat.le_of_ble_eq_true rfl) (Nat.le_of_ble_eq_true rfl) (Nat.le_of_ble_eq_true rfl) (goV fun G80 h80 => ?_)
      subst h80
      refine gw_G gup_gup ?_
      refine gw_iload_n (q := 84) hc dX3_pass_83 rfl rfl xg_3 ?_
      exact gw_iret hc dX3_pass_84 ⟨_, rfl, ⟨rfl, by rw [if_neg (by omega), if_neg (by omega)]⟩⟩
    · skip
      exfalso; omega
  · skip
    refine gw_iload_n (q := 50) hc dX3_pass_49 rfl rfl xg_3 ?_
    refine gw_goto (q := 54) hc dX3_pass_50 (by decide) ?_
    refine gw_iadd (q := 55) hc dX3_pass_54 rfl ?_
    refine gw_put (q := 58) hc dX3_pass_55 rfl cE_ME 9 (by decide) q432 (fun _ h => h) rfl gup_s ⟨rfl, rfl⟩ rfl (Nat.le_of_ble_eq_true rfl) ?_
    refine gw_G gup_gup ?_
    refine gw_aload_n (q := 59) hc dX3_pass_58 rfl rfl xg_0 ?_
    refine gw_dup (q := 60) hc dX3_pass_59 rfl rfl ?_
    refine gw_get (q := 63) hc dX3_pass_60 rfl cE_ME 8 (by decide) q429 (fun _ h => h) gup_s rfl ?_
    refine gw_iload_n (q := 64) hc dX3_pass_63 rfl rfl xg_1 ?_
    refine gw_if_eq  (q := 67) (t := 71) hc dX3_pass_64 rfl (by decide) (by omega) (fun c64 => ?_) (fun c64 => ?_)
    · skip
      exfalso; omega
    · skip
      refine gw_iconst (q := 68) hc dX3_pass_67 rfl ?_
      refine gw_goto (q := 72) hc dX3_pass_68 (by decide) ?_
      refine gw_iadd (q := 73) hc dX3_pass_72 rfl ?_
      refine gw_put (q := 76) hc dX3_pass_73 rfl cE_ME 8 (by decide) q429 (fun _ h => h) rfl gup_s ⟨rfl, rfl⟩ rfl (Nat.le_of_ble_eq_true rfl) ?_
      refine gw_G gup_gup ?_
      refine gw_aload_n (q := 77) hc dX3_pass_76 rfl rfl xg_0 ?_
      refine gw_aload_n (q := 78) hc dX3_pass_77 rfl rfl xg_2 ?_
      refine gw_iconst (q := 79) hc dX3_pass_78 rfl ?_
      refine gw_iald (q := 80) hc dX3_pass_79 rfl ((gup_n hne).trans hS) (by omega) (by omega) ?_
      refine gw_callV (q := 83) (bc' := 0) (bs' := 0) (As := [_]) hc dX3_pass_80 rfl q676 mw_X3_grow (rc_o hc cE_ME gup_s) rfl rfl (m_X3_grow gup_s g3 ha hs) ⟨Nat.le_of_ble_eq_true rfl, Nat.le_of_ble_eq_true rfl⟩ (Nat.le_of_ble_eq_true rfl) (Nat.le_of_ble_eq_true rfl) (Nat.le_of_ble_eq_true rfl) (goV fun G80 h80 => ?_)
      subst h80
      refine gw_G gup_gup ?_
      refine gw_iload_n (q := 84) hc dX3_pass_83 rfl rfl xg_3 ?_
      exact gw_iret hc dX3_pass_84 ⟨_, rfl, ⟨rfl, by rw [if_pos (by omega), if_pos (by omega)]⟩⟩

set_option maxHeartbeats 4000000 in
theorem m_X3_become {l : Launch} {D : va_G} {X : Nat → Nat} {b0 : Nat} {a : Nat} {no : Int} {th : Value} {fd ld : Nat} {w pl sp ag dy nt bd bn bl vs se br fl : Int} {G : gM} (hG : G a = some (mtO no th fd ld w pl sp ag dy nt bd bn bl vs se br fl)) {c2 : Nat} {no2 : Int} {th2 : Value} {fd2 ld2 : Nat} {w2 pl2 sp2 ag2 dy2 nt2 bd2 bn2 bl2 vs2 se2 br2 fl2 : Int} (hO : G c2 = some (mtO no2 th2 fd2 ld2 w2 pl2 sp2 ag2 dy2 nt2 bd2 bn2 bl2 vs2 se2 br2 fl2)) (hne : c2 ≠ a) (hb : br2 = 0 ∨ br2 = 1) : gMet l D X b0 yX3_become cX3_become 2 none (rmE 0 0 0) [.ref a, .ref c2] G (eV (gup G a (mtO no th fd ld w pl2 sp2 ag2 dy2 nt2 bd2 bn2 bl2 vs2 se2 br2 fl2))) := by
  refine gm_start (own := "EnergyDiscs$Meter") (lv := [some (.ref a), some (.ref c2)]) (by decide +kernel) rfl (Nat.le_of_ble_eq_true rfl) rfl (fun p_ e_ s_ m_ args_ below_ meth_ c_ hc hnm => ?_)
  refine gw_aload_n (q := 1) hc dX3_become_0 rfl rfl xg_0 ?_
  refine gw_aload_n (q := 2) hc dX3_become_1 rfl rfl xg_1 ?_
  refine gw_get (q := 5) hc dX3_become_2 rfl cE_ME 5 (by decide) q421 (fun _ h => h) hO rfl ?_
  refine gw_put (q := 8) hc dX3_become_5 rfl cE_ME 5 (by decide) q421 (fun _ h => h) rfl hG ⟨rfl, rfl⟩ rfl (Nat.le_of_ble_eq_true rfl) ?_
  refine gw_aload_n (q := 9) hc dX3_become_8 rfl rfl xg_0 ?_
  refine gw_aload_n (q := 10) hc dX3_become_9 rfl rfl xg_1 ?_
  refine gw_get (q := 13) hc dX3_become_10 rfl cE_ME 6 (by decide) q423 (fun _ h => h) ((gup_n hne).trans hO) rfl ?_
  refine gw_put (q := 16) hc dX3_become_13 rfl cE_ME 6 (by decide) q423 (fun _ h => h) rfl gup_s ⟨rfl, rfl⟩ rfl (Nat.le_of_ble_eq_true rfl) ?_
  refine gw_G gup_gup ?_
  refine gw_aload_n (q := 17) hc dX3_become_16 rfl rfl xg_0 ?_
  refine gw_aload_n (q := 18) hc dX3_become_17 rfl rfl xg_1 ?_
  refine gw_get (q := 21) hc dX3_become_18 rfl cE_ME 7 (by decide) q426 (fun _ h => h) ((gup_n hne).trans hO) rfl ?_
  refine gw_put (q := 24) hc dX3_become_21 rfl cE_ME 7 (by decide) q426 (fun _ h => h) rfl gup_s ⟨rfl, rfl⟩ rfl (Nat.le_of_ble_eq_true rfl) ?_
  refine gw_G gup_gup ?_
  refine gw_aload_n (q := 25) hc dX3_become_24 rfl rfl xg_0 ?_
  refine gw_aload_n (q := 26) hc dX3_become_25 rfl rfl xg_1 ?_
  refine gw_get (q := 29) hc dX3_become_26 rfl cE_ME 8 (by decide) q429 (fun _ h => h) ((gup_n hne).trans hO) rfl ?_
  refine gw_put (q := 32) hc dX3_become_29 rfl cE_ME 8 (by decide) q429 (fun _ h => h) rfl gup_s ⟨rfl, rfl⟩ rfl (Nat.le_of_ble_eq_true rfl) ?_
  refine gw_G gup_gup ?_
  refine gw_aload_n (q := 33) hc dX3_become_32 rfl rfl xg_0 ?_
  refine gw_aload_n (q := 34) hc dX3_become_33 rfl rfl xg_1 ?_
  refine gw_get (q := 37) hc dX3_become_34 rfl cE_ME 9 (by decide) q432 (fun _ h => h) ((gup_n hne).trans hO) rfl ?_
  refine gw_put (q := 40) hc dX3_become_37 rfl cE_ME 9 (by decide) q432 (fun _ h => h) rfl gup_s ⟨rfl, rfl⟩ rfl (Nat.le_of_ble_eq_true rfl) ?_
  refine gw_G gup_gup ?_
  refine gw_aload_n (q := 41) hc dX3_become_40 rfl rfl xg_0 ?_
  refine gw_aload_n (q := 42) hc dX3_become_41 rfl rfl xg_1 ?_
  refine gw_get (q := 45) hc dX3_become_42 rfl cE_ME 10 (by decide) q435 (fun _ h => h) ((gup_n hne).trans hO) rfl ?_
  refine gw_put (q := 48) hc dX3_become_45 rfl cE_ME 10 (by decide) q435 (fun _ h => h) rfl gup_s ⟨rfl, rfl⟩ rfl (Nat.le_of_ble_eq_true rfl) ?_
  refine gw_G gup_gup ?_
  refine gw_aload_n (q := 49) hc dX3_become_48 rfl rfl xg_0 ?_
  refine gw_aload_n (q := 50) hc dX3_become_49 rfl rfl xg_1 ?_
  refine gw_get (q := 53) hc dX3_become_50 rfl cE_ME 11 (by decide) q437 (fun _ h => h) ((gup_n hne).trans hO) rfl ?_
  refine gw_put (q := 56) hc dX3_become_53 rfl cE_ME 11 (by decide) q437 (fun _ h => h) rfl gup_s ⟨rfl, rfl⟩ rfl (Nat.le_of_ble_eq_true rfl) ?_
  refine gw_G gup_gup ?_
  refine gw_aload_n (q := 57) hc dX3_become_56 rfl rfl xg_0 ?_
  refine gw_aload_n (q := 58) hc dX3_become_57 rfl rfl xg_1 ?_
  refine gw_get (q := 61) hc dX3_become_58 rfl cE_ME 12 (by decide) q439 (fun _ h => h) ((gup_n hne).trans hO) rfl ?_
  refine gw_put (q := 64) hc dX3_become_61 rfl cE_ME 12 (by decide) q439 (fun _ h => h) rfl gup_s ⟨rfl, rfl⟩ rfl (Nat.le_of_ble_eq_true rfl) ?_
  refine gw_G gup_gup ?_
  refine gw_aload_n (q := 65) hc dX3_become_64 rfl rfl xg_0 ?_
  refine gw_aload_n (q := 66) hc dX3_become_65 rfl rfl xg_1 ?_
  refine gw_get (q := 69) hc dX3_become_66 rfl cE_ME 13 (by decide) q442 (fun _ h => h) ((gup_n hne).trans hO) rfl ?_
  refine gw_put (q := 72) hc dX3_become_69 rfl cE_ME 13 (by decide) q442 (fun _ h => h) rfl gup_s ⟨rfl, rfl⟩ rfl (Nat.le_of_ble_eq_true rfl) ?_
  refine gw_G gup_gup ?_
  refine gw_aload_n (q := 73) hc dX3_become_72 rfl rfl xg_0 ?_
  refine gw_aload_n (q := 74) hc dX3_become_73 rfl rfl xg_1 ?_
  refine gw_get (q := 77) hc dX3_become_74 rfl cE_ME 14 (by decide) q445 (fun _ h => h) ((gup_n hne).trans hO) rfl ?_
  refine gw_put (q := 80) hc dX3_become_77 rfl cE_ME 14 (by decide) q445 (fun _ h => h) rfl gup_s ⟨rfl, rfl⟩ rfl (Nat.le_of_ble_eq_true rfl) ?_
  refine gw_G gup_gup ?_
  refine gw_aload_n (q := 81) hc dX3_become_80 rfl rfl xg_0 ?_
  refine gw_aload_n (q := 82) hc dX3_become_81 rfl rfl xg_1 ?_
  refine gw_get (q := 85) hc dX3_become_82 rfl cE_ME 15 (by decide) q448 (fun _ h => h) ((gup_n hne).trans hO) rfl ?_
  refine gw_put (q := 88) hc dX3_become_85 rfl cE_ME 15 (by decide) q448 (fun _ h => h) rfl gup_s (nz (by omega)) rfl (Nat.le_of_ble_eq_true rfl) ?_
  refine gw_G gup_gup ?_
  refine gw_aload_n (q := 89) hc dX3_become_88 rfl rfl xg_0 ?_
  refine gw_aload_n (q := 90) hc dX3_become_89 rfl rfl xg_1 ?_
  refine gw_get (q := 93) hc dX3_become_90 rfl cE_ME 16 (by decide) q451 (fun _ h => h) ((gup_n hne).trans hO) rfl ?_
  refine gw_put (q := 96) hc dX3_become_93 rfl cE_ME 16 (by decide) q451 (fun _ h => h) rfl gup_s ⟨rfl, rfl⟩ rfl (Nat.le_of_ble_eq_true rfl) ?_
  refine gw_G gup_gup ?_
  exact gw_vret hc dX3_become_96 ⟨rfl, rfl⟩

