/-! ===== the twin: minutes, changes ===== -/
set_option maxRecDepth 100000
theorem mw_X2_passesOne : mV "EnergyDiscsModel" yX2_passesOne cX2_passesOne 9 (some FieldType.int) 2 := ⟨⟨rfl, by decide +kernel, by decide +kernel, by decide +kernel⟩, q1381, qs55, q82, q1382⟩
set_option maxHeartbeats 4000000 in
theorem m_X2_passesOne {l : Launch} {D : va_G} {X : Nat → Nat} {b0 : Nat} {α : Nat → Nat} {S P L V Pd : Int → Int} {kn ln : Int} {G : gM} (hα : aN α) {p : Int} {m : Int} {T : Int} (hp : p = 0 ∨ p = 138) (hm : 0 ≤ m ∧ m < 7) (hT : treeW S) (hL : loadW S) (hs : stW S p) (hmt : mtW S p m T) (ht : 0 ≤ S (p + 6) ∧ S (p + 6) < 1000000000) : gMet l D X b0 yX2_passesOne cX2_passesOne 9 (some FieldType.int) (rmE 4 0 0) [.ref (α 0), .int (iI p), .int (iI m)] (tG D α S P kn L V Pd ln G) (eI (pmT S p m) (tG D α (pmF S p m) P kn L V Pd ln G)) := by
  refine gm_start (own := "EnergyDiscsModel") (lv := [some (.ref (α 0)), some (.int (iI p)), some (.int (iI m)), none, none, none, none, none, none]) (by decide +kernel) rfl (Nat.le_of_ble_eq_true rfl) rfl (fun p_ e_ s_ m_ args_ below_ meth_ c_ hc hnm => ?_)
  have hG := pmG_bd hL hs hmt hm.1
  have hw := pw_bd hL m
  have h52 : pm5 S p m (p + 11 + 13 * m + 2) = S (p + 11 + 13 * m + 2) := by rw [pm5, fu_n (by omega), pm4_o (by omega) (by omega) (by omega) (by omega) (by omega)]
  obtain ⟨a0, a1, a2, a3, a4, a5⟩ := id hs
  obtain ⟨b1, b2, b3, b5, b7, b9, b11, b12⟩ := id hmt
  refine gw_iload_n (q := 1) hc dX2_passesOne_0 rfl rfl xg_1 ?_
  refine gw_iload_n (q := 2) hc dX2_passesOne_1 rfl rfl xg_2 ?_
  refine gw_callS (q := 5) (bc' := 0) (bs' := 0) (As := [_, _]) hc dX2_passesOne_2 rfl q1313 mw_X2_at rfl rfl (m_X2_at) ⟨Nat.le_of_ble_eq_true rfl, Nat.le_of_ble_eq_true rfl⟩ (Nat.le_of_ble_eq_true rfl) (Nat.le_of_ble_eq_true rfl) (Nat.le_of_ble_eq_true rfl) (goI fun r2 G2 h2 => ?_)
  obtain ⟨rfl, rfl⟩ := h2
  refine gw_istore_n (q := 6) hc dX2_passesOne_5 rfl rfl xs_3 (by decide) (n2p xg_2 rfl) ?_
  refine gw_aload_n (q := 7) hc dX2_passesOne_6 rfl rfl xg_0 ?_
  refine gw_iload_n (q := 8) hc dX2_passesOne_7 rfl rfl xg_2 ?_
  refine gw_callV (q := 11) (bc' := 0) (bs' := 0) (As := [_]) hc dX2_passesOne_8 rfl q1383 mw_X2_power (rc_o hc cE_MO (tg_m hα)) rfl rfl (m_X2_power hα hT hL (by omega)) ⟨Nat.le_of_ble_eq_true rfl, Nat.le_of_ble_eq_true rfl⟩ (Nat.le_of_ble_eq_true rfl) (Nat.le_of_ble_eq_true rfl) (Nat.le_of_ble_eq_true rfl) (goI fun r8 G8 h8 => ?_)
  obtain ⟨rfl, rfl⟩ := h8
  refine gw_istore (q := 13) hc dX2_passesOne_11 rfl xs_4 (by decide) (n2p xg_3 rfl) ?_
  refine gw_aload_n (q := 14) hc dX2_passesOne_13 rfl rfl xg_0 ?_
  refine gw_get (q := 17) hc dX2_passesOne_14 rfl cE_MO 0 (by decide) q1252 (fun _ h => h) (tg_m hα) xg_0 ?_
  refine gw_iload_n (q := 18) hc dX2_passesOne_17 rfl rfl xg_3 ?_
  refine gw_iconst (q := 19) hc dX2_passesOne_18 rfl ?_
  refine gw_iadd (q := 20) hc dX2_passesOne_19 rfl ?_
  refine gw_dup2_11 (q := 21) hc dX2_passesOne_20 rfl rfl rfl ?_
  refine gw_lald (q := 22) hc dX2_passesOne_21 rfl (tg_s hα) (by omega) (by omega) ?_
  refine gw_iload (q := 24) hc dX2_passesOne_22 rfl xg_4 ?_
  refine gw_i2l (q := 25) hc dX2_passesOne_24 rfl (by omega) ?_
  refine gw_ladd (q := 26) hc dX2_passesOne_25 rfl ?_
  refine gw_last (q := 27) hc dX2_passesOne_26 rfl (tg_s hα) (by omega) (by omega) ?_
  refine gw_G (tu_s hα) ?_
  refine gw_G (show _ = tG D α (pm1 S p m) P kn L V Pd ln G from rfl) ?_
  refine gw_aload_n (q := 28) hc dX2_passesOne_27 rfl rfl xg_0 ?_
  refine gw_iload_n (q := 29) hc dX2_passesOne_28 rfl rfl xg_1 ?_
  refine gw_iload_n (q := 30) hc dX2_passesOne_29 rfl rfl xg_2 ?_
  refine gw_iload (q := 32) hc dX2_passesOne_30 rfl xg_4 ?_
  refine gw_callV (q := 35) (bc' := 0) (bs' := 0) (As := [_, _, _]) hc dX2_passesOne_32 rfl q1391 mw_X2_goes (rc_o hc cE_MO (tg_m hα)) rfl rfl (m_X2_goes hα hp hm (pw_bd hL m) (by rw [pm1_o (by omega)]; omega) (by rw [pm1_o (by omega)]; exact b1) (by rw [pm1_o (by omega)]; omega) (by rw [pm1_o (by omega)]; exact b7) (by rw [pm1_o (by omega)]; exact a1) (by rw [pm1_o (by omega)]; exact a2)) ⟨Nat.le_of_ble_eq_true rfl, Nat.le_of_ble_eq_true rfl⟩ (Nat.le_of_ble_eq_true rfl) (Nat.le_of_ble_eq_true rfl) (Nat.le_of_ble_eq_true rfl) (goJ fun r32 G32 h32 => ?_)
  obtain ⟨e32, rfl⟩ := h32
  have e32 : r32 = pmG S p m := e32
  subst e32
  refine gw_lstore (q := 37) hc dX2_passesOne_35 rfl xs_5 xs_6 (by decide) (n2p xg_4 rfl) ?_
  refine gw_lload (q := 39) hc dX2_passesOne_37 rfl xg_5 ?_
  refine gw_ldc2 (q := 42) hc dX2_passesOne_39 rfl (v := 6000) q1395 (by decide) ?_
  refine gw_ldiv (q := 43) hc dX2_passesOne_42 rfl (by omega) (by omega) ?_
  refine gw_lstore (q := 45) hc dX2_passesOne_43 rfl xs_7 xs_8 (by decide) (n2p xg_6 rfl) ?_
  refine gw_aload_n (q := 46) hc dX2_passesOne_45 rfl rfl xg_0 ?_
  refine gw_get (q := 49) hc dX2_passesOne_46 rfl cE_MO 0 (by decide) q1252 (fun _ h => h) (tg_m hα) xg_0 ?_
  refine gw_iload_n (q := 50) hc dX2_passesOne_49 rfl rfl xg_3 ?_
  refine gw_iconst (q := 51) hc dX2_passesOne_50 rfl ?_
  refine gw_iadd (q := 52) hc dX2_passesOne_51 rfl ?_
  refine gw_lload (q := 54) hc dX2_passesOne_52 rfl xg_5 ?_
  refine gw_ldc2 (q := 57) hc dX2_passesOne_54 rfl (v := 6000) q1395 (by decide) ?_
  refine gw_lrem (q := 58) hc dX2_passesOne_57 rfl (by omega) (by omega) ?_
  refine gw_last (q := 59) hc dX2_passesOne_58 rfl (tg_s hα) (by omega) (by omega) ?_
  refine gw_G (tu_s hα) ?_
  refine gw_G (show _ = tG D α (pm2 S p m) P kn L V Pd ln G from rfl) ?_
  refine gw_aload_n (q := 60) hc dX2_passesOne_59 rfl rfl xg_0 ?_
  refine gw_get (q := 63) hc dX2_passesOne_60 rfl cE_MO 0 (by decide) q1252 (fun _ h => h) (tg_m hα) xg_0 ?_
  refine gw_iload_n (q := 64) hc dX2_passesOne_63 rfl rfl xg_3 ?_
  refine gw_aload_n (q := 65) hc dX2_passesOne_64 rfl rfl xg_0 ?_
  refine gw_get (q := 68) hc dX2_passesOne_65 rfl cE_MO 0 (by decide) q1252 (fun _ h => h) (tg_m hα) xg_0 ?_
  refine gw_iload_n (q := 69) hc dX2_passesOne_68 rfl rfl xg_1 ?_
  refine gw_bipush (q := 71) hc dX2_passesOne_69 rfl (by decide) ?_
  refine gw_iadd (q := 72) hc dX2_passesOne_71 rfl ?_
  refine gw_lald (q := 73) hc dX2_passesOne_72 rfl (tg_s hα) (by omega) (by omega) ?_
  refine gw_callS (q := 76) (bc' := 0) (bs' := 0) (As := [_]) hc dX2_passesOne_73 rfl q1396 mw_X2_isNight rfl rfl (m_X2_isNight (by rw [pm2, fu_n (by omega), pm1, fu_n (by omega)]; exact ht)) ⟨Nat.le_of_ble_eq_true rfl, Nat.le_of_ble_eq_true rfl⟩ (Nat.le_of_ble_eq_true rfl) (Nat.le_of_ble_eq_true rfl) (Nat.le_of_ble_eq_true rfl) (goI fun r73 G73 h73 => ?_)
  obtain ⟨b73, rfl⟩ := h73
  refine gw_if_eq  (q := 79) (t := 83) hc dX2_passesOne_76 rfl (by decide) (by omega) (fun c76 => ?_) (fun c76 => ?_)
  · have hn : pmN S p m = 3 := if_neg (by rcases b73 with h | h; omega; exact h.2)
    refine gw_iconst (q := 84) hc dX2_passesOne_83 rfl ?_
    refine gw_iadd (q := 85) hc dX2_passesOne_84 rfl ?_
    refine gw_dup2_11 (q := 86) hc dX2_passesOne_85 rfl rfl rfl ?_
    refine gw_lald (q := 87) hc dX2_passesOne_86 rfl (tg_s hα) (by omega) (by omega) ?_
    refine gw_lload (q := 89) hc dX2_passesOne_87 rfl xg_7 ?_
    refine gw_ladd (q := 90) hc dX2_passesOne_89 rfl ?_
    refine gw_last (q := 91) hc dX2_passesOne_90 rfl (tg_s hα) (by omega) (by omega) ?_
    refine gw_G (tu_s hα) ?_
    refine gw_G (show _ = tG D α (pm3 S p m) P kn L V Pd ln G from by unfold pm3; rw [hn]) ?_
    refine gw_aload_n (q := 92) hc dX2_passesOne_91 rfl rfl xg_0 ?_
    refine gw_get (q := 95) hc dX2_passesOne_92 rfl cE_MO 0 (by decide) q1252 (fun _ h => h) (tg_m hα) xg_0 ?_
    refine gw_iload_n (q := 96) hc dX2_passesOne_95 rfl rfl xg_3 ?_
    refine gw_bipush (q := 98) hc dX2_passesOne_96 rfl (by decide) ?_
    refine gw_iadd (q := 99) hc dX2_passesOne_98 rfl ?_
    refine gw_dup2_11 (q := 100) hc dX2_passesOne_99 rfl rfl rfl ?_
    refine gw_lald (q := 101) hc dX2_passesOne_100 rfl (tg_s hα) (by omega) (by omega) ?_
    refine gw_lconst (q := 102) hc dX2_passesOne_101 rfl (v := 1) rfl ?_
    refine gw_ladd (q := 103) hc dX2_passesOne_102 rfl ?_
    refine gw_last (q := 104) hc dX2_passesOne_103 rfl (tg_s hα) (by omega) (by omega) ?_
    refine gw_G (tu_s hα) ?_
    refine gw_G (show _ = tG D α (pm4 S p m) P kn L V Pd ln G from rfl) ?_
    refine gw_aload_n (q := 105) hc dX2_passesOne_104 rfl rfl xg_0 ?_
    refine gw_get (q := 108) hc dX2_passesOne_105 rfl cE_MO 0 (by decide) q1252 (fun _ h => h) (tg_m hα) xg_0 ?_
    refine gw_iload_n (q := 109) hc dX2_passesOne_108 rfl rfl xg_3 ?_
    refine gw_bipush (q := 111) hc dX2_passesOne_109 rfl (by decide) ?_
    refine gw_iadd (q := 112) hc dX2_passesOne_111 rfl ?_
    refine gw_lald (q := 113) hc dX2_passesOne_112 rfl (tg_s hα) (by omega) (by omega) ?_
    refine gw_aload_n (q := 114) hc dX2_passesOne_113 rfl rfl xg_0 ?_
    refine gw_get (q := 117) hc dX2_passesOne_114 rfl cE_MO 0 (by decide) q1252 (fun _ h => h) (tg_m hα) xg_0 ?_
    refine gw_iload_n (q := 118) hc dX2_passesOne_117 rfl rfl xg_1 ?_
    refine gw_iconst (q := 119) hc dX2_passesOne_118 rfl ?_
    refine gw_iadd (q := 120) hc dX2_passesOne_119 rfl ?_
    refine gw_lald (q := 121) hc dX2_passesOne_120 rfl (tg_s hα) (by omega) (by omega) ?_
    refine gw_lcmp (q := 122) hc dX2_passesOne_121 rfl (by rw [pm4_9]; omega) (by rw [pm4_o (by omega) (by omega) (by omega) (by omega) (by omega)]; omega) ?_
    refine gw_ifc_lt  (q := 125) (t := 166) hc dX2_passesOne_122 rfl (by decide)  (fun c122 => ?_) (fun c122 => ?_)
    · have hF : pmF S p m = pm4 S p m := if_neg (Int.not_le.mpr c122)
      refine gw_lload (q := 168) hc dX2_passesOne_166 rfl xg_7 ?_
      refine gw_l2i (q := 169) hc dX2_passesOne_168 rfl ?_
      exact gw_iret hc dX2_passesOne_169 ⟨_, rfl, ⟨rfl, by rw [hF]⟩⟩
    · skip
      refine gw_aload_n (q := 126) hc dX2_passesOne_125 rfl rfl xg_0 ?_
      refine gw_get (q := 129) hc dX2_passesOne_126 rfl cE_MO 0 (by decide) q1252 (fun _ h => h) (tg_m hα) xg_0 ?_
      refine gw_iload_n (q := 130) hc dX2_passesOne_129 rfl rfl xg_3 ?_
      refine gw_bipush (q := 132) hc dX2_passesOne_130 rfl (by decide) ?_
      refine gw_iadd (q := 133) hc dX2_passesOne_132 rfl ?_
      refine gw_lconst (q := 134) hc dX2_passesOne_133 rfl (v := 0) rfl ?_
      refine gw_last (q := 135) hc dX2_passesOne_134 rfl (tg_s hα) (by omega) (by omega) ?_
      refine gw_G (tu_s hα) ?_
      refine gw_G (show _ = tG D α (pm5 S p m) P kn L V Pd ln G from rfl) ?_
      refine gw_aload_n (q := 136) hc dX2_passesOne_135 rfl rfl xg_0 ?_
      refine gw_get (q := 139) hc dX2_passesOne_136 rfl cE_MO 0 (by decide) q1252 (fun _ h => h) (tg_m hα) xg_0 ?_
      refine gw_iload_n (q := 140) hc dX2_passesOne_139 rfl rfl xg_3 ?_
      refine gw_iconst (q := 141) hc dX2_passesOne_140 rfl ?_
      refine gw_iadd (q := 142) hc dX2_passesOne_141 rfl ?_
      refine gw_dup2_11 (q := 143) hc dX2_passesOne_142 rfl rfl rfl ?_
      refine gw_lald (q := 144) hc dX2_passesOne_143 rfl (tg_s hα) (by omega) (by omega) ?_
      refine gw_aload_n (q := 145) hc dX2_passesOne_144 rfl rfl xg_0 ?_
      refine gw_get (q := 148) hc dX2_passesOne_145 rfl cE_MO 0 (by decide) q1252 (fun _ h => h) (tg_m hα) xg_0 ?_
      refine gw_iload_n (q := 149) hc dX2_passesOne_148 rfl rfl xg_3 ?_
      refine gw_iconst (q := 150) hc dX2_passesOne_149 rfl ?_
      refine gw_iadd (q := 151) hc dX2_passesOne_150 rfl ?_
      refine gw_lald (q := 152) hc dX2_passesOne_151 rfl (tg_s hα) (by omega) (by omega) ?_
      refine gw_ldc2 (q := 155) hc dX2_passesOne_152 rfl (v := 160) q1402 (by decide) ?_
      refine gw_lcmp (q := 156) hc dX2_passesOne_155 rfl (by rw [h52]; omega) (by decide) ?_
      refine gw_ifc_ge  (q := 159) (t := 163) hc dX2_passesOne_156 rfl (by decide)  (fun c156 => ?_) (fun c156 => ?_)
      · have hF : pmF S p m = fu (pm5 S p m) (p + 11 + 13 * m + 2) (pm5 S p m (p + 11 + 13 * m + 2) + 0) := by unfold pmF; rw [if_pos c122, if_neg (Int.not_lt.mpr c156)]
        refine gw_lconst (q := 164) hc dX2_passesOne_163 rfl (v := 0) rfl ?_
        refine gw_ladd (q := 165) hc dX2_passesOne_164 rfl ?_
        refine gw_last (q := 166) hc dX2_passesOne_165 rfl (tg_s hα) (by omega) (by omega) ?_
        refine gw_G (tu_s hα) ?_
        refine gw_lload (q := 168) hc dX2_passesOne_166 rfl xg_7 ?_
        refine gw_l2i (q := 169) hc dX2_passesOne_168 rfl ?_
        exact gw_iret hc dX2_passesOne_169 ⟨_, rfl, ⟨rfl, by rw [hF]⟩⟩
      · have hF : pmF S p m = fu (pm5 S p m) (p + 11 + 13 * m + 2) (pm5 S p m (p + 11 + 13 * m + 2) + 1) := by unfold pmF; rw [if_pos c122, if_pos c156]
        refine gw_lconst (q := 160) hc dX2_passesOne_159 rfl (v := 1) rfl ?_
        refine gw_goto (q := 164) hc dX2_passesOne_160 (by decide) ?_
        refine gw_ladd (q := 165) hc dX2_passesOne_164 rfl ?_
        refine gw_last (q := 166) hc dX2_passesOne_165 rfl (tg_s hα) (by omega) (by omega) ?_
        refine gw_G (tu_s hα) ?_
        refine gw_lload (q := 168) hc dX2_passesOne_166 rfl xg_7 ?_
        refine gw_l2i (q := 169) hc dX2_passesOne_168 rfl ?_
        exact gw_iret hc dX2_passesOne_169 ⟨_, rfl, ⟨rfl, by rw [hF]⟩⟩
  · have hn : pmN S p m = 4 := if_pos (by rcases b73 with h | h; exact h.2; omega)
    refine gw_iconst (q := 80) hc dX2_passesOne_79 rfl ?_
    refine gw_goto (q := 84) hc dX2_passesOne_80 (by decide) ?_
    refine gw_iadd (q := 85) hc dX2_passesOne_84 rfl ?_
    refine gw_dup2_11 (q := 86) hc dX2_passesOne_85 rfl rfl rfl ?_
    refine gw_lald (q := 87) hc dX2_passesOne_86 rfl (tg_s hα) (by omega) (by omega) ?_
    refine gw_lload (q := 89) hc dX2_passesOne_87 rfl xg_7 ?_
    refine gw_ladd (q := 90) hc dX2_passesOne_89 rfl ?_
    refine gw_last (q := 91) hc dX2_passesOne_90 rfl (tg_s hα) (by omega) (by omega) ?_
    refine gw_G (tu_s hα) ?_
    refine gw_G (show _ = tG D α (pm3 S p m) P kn L V Pd ln G from by unfold pm3; rw [hn]) ?_
    refine gw_aload_n (q := 92) hc dX2_passesOne_91 rfl rfl xg_0 ?_
    refine gw_get (q := 95) hc dX2_passesOne_92 rfl cE_MO 0 (by decide) q1252 (fun _ h => h) (tg_m hα) xg_0 ?_
    refine gw_iload_n (q := 96) hc dX2_passesOne_95 rfl rfl xg_3 ?_
    refine gw_bipush (q := 98) hc dX2_passesOne_96 rfl (by decide) ?_
    refine gw_iadd (q := 99) hc dX2_passesOne_98 rfl ?_
    refine gw_dup2_11 (q := 100) hc dX2_passesOne_99 rfl rfl rfl ?_
    refine gw_lald (q := 101) hc dX2_passesOne_100 rfl (tg_s hα) (by omega) (by omega) ?_
    refine gw_lconst (q := 102) hc dX2_passesOne_101 rfl (v := 1) rfl ?_
    refine gw_ladd (q := 103) hc dX2_passesOne_102 rfl ?_
    refine gw_last (q := 104) hc dX2_passesOne_103 rfl (tg_s hα) (by omega) (by omega) ?_
    refine gw_G (tu_s hα) ?_
    refine gw_G (show _ = tG D α (pm4 S p m) P kn L V Pd ln G from rfl) ?_
    refine gw_aload_n (q := 105) hc dX2_passesOne_104 rfl rfl xg_0 ?_
    refine gw_get (q := 108) hc dX2_passesOne_105 rfl cE_MO 0 (by decide) q1252 (fun _ h => h) (tg_m hα) xg_0 ?_
    refine gw_iload_n (q := 109) hc dX2_passesOne_108 rfl rfl xg_3 ?_
    refine gw_bipush (q := 111) hc dX2_passesOne_109 rfl (by decide) ?_
    refine gw_iadd (q := 112) hc dX2_passesOne_111 rfl ?_
    refine gw_lald (q := 113) hc dX2_passesOne_112 rfl (tg_s hα) (by omega) (by omega) ?_
    refine gw_aload_n (q := 114) hc dX2_passesOne_113 rfl rfl xg_0 ?_
    refine gw_get (q := 117) hc dX2_passesOne_114 rfl cE_MO 0 (by decide) q1252 (fun _ h => h) (tg_m hα) xg_0 ?_
    refine gw_iload_n (q := 118) hc dX2_passesOne_117 rfl rfl xg_1 ?_
    refine gw_iconst (q := 119) hc dX2_passesOne_118 rfl ?_
    refine gw_iadd (q := 120) hc dX2_passesOne_119 rfl ?_
    refine gw_lald (q := 121) hc dX2_passesOne_120 rfl (tg_s hα) (by omega) (by omega) ?_
    refine gw_lcmp (q := 122) hc dX2_passesOne_121 rfl (by rw [pm4_9]; omega) (by rw [pm4_o (by omega) (by omega) (by omega) (by omega) (by omega)]; omega) ?_
    refine gw_ifc_lt  (q := 125) (t := 166) hc dX2_passesOne_122 rfl (by decide)  (fun c122 => ?_) (fun c122 => ?_)
    · have hF : pmF S p m = pm4 S p m := if_neg (Int.not_le.mpr c122)
      refine gw_lload (q := 168) hc dX2_passesOne_166 rfl xg_7 ?_
      refine gw_l2i (q := 169) hc dX2_passesOne_168 rfl ?_
      exact gw_iret hc dX2_passesOne_169 ⟨_, rfl, ⟨rfl, by rw [hF]⟩⟩
    · skip
      refine gw_aload_n (q := 126) hc dX2_passesOne_125 rfl rfl xg_0 ?_
      refine gw_get (q := 129) hc dX2_passesOne_126 rfl cE_MO 0 (by decide) q1252 (fun _ h => h) (tg_m hα) xg_0 ?_
      refine gw_iload_n (q := 130) hc dX2_passesOne_129 rfl rfl xg_3 ?_
      refine gw_bipush (q := 132) hc dX2_passesOne_130 rfl (by decide) ?_
      refine gw_iadd (q := 133) hc dX2_passesOne_132 rfl ?_
      refine gw_lconst (q := 134) hc dX2_passesOne_133 rfl (v := 0) rfl ?_
      refine gw_last (q := 135) hc dX2_passesOne_134 rfl (tg_s hα) (by omega) (by omega) ?_
      refine gw_G (tu_s hα) ?_
      refine gw_G (show _ = tG D α (pm5 S p m) P kn L V Pd ln G from rfl) ?_
      refine gw_aload_n (q := 136) hc dX2_passesOne_135 rfl rfl xg_0 ?_
      refine gw_get (q := 139) hc dX2_passesOne_136 rfl cE_MO 0 (by decide) q1252 (fun _ h => h) (tg_m hα) xg_0 ?_
      refine gw_iload_n (q := 140) hc dX2_passesOne_139 rfl rfl xg_3 ?_
      refine gw_iconst (q := 141) hc dX2_passesOne_140 rfl ?_
      refine gw_iadd (q := 142) hc dX2_passesOne_141 rfl ?_
      refine gw_dup2_11 (q := 143) hc dX2_passesOne_142 rfl rfl rfl ?_
      refine gw_lald (q := 144) hc dX2_passesOne_143 rfl (tg_s hα) (by omega) (by omega) ?_
      refine gw_aload_n (q := 145) hc dX2_passesOne_144 rfl rfl xg_0 ?_
      refine gw_get (q := 148) hc dX2_passesOne_145 rfl cE_MO 0 (by decide) q1252 (fun _ h => h) (tg_m hα) xg_0 ?_
      refine gw_iload_n (q := 149) hc dX2_passesOne_148 rfl rfl xg_3 ?_
      refine gw_iconst (q := 150) hc dX2_passesOne_149 rfl ?_
      refine gw_iadd (q := 151) hc dX2_passesOne_150 rfl ?_
      refine gw_lald (q := 152) hc dX2_passesOne_151 rfl (tg_s hα) (by omega) (by omega) ?_
      refine gw_ldc2 (q := 155) hc dX2_passesOne_152 rfl (v := 160) q1402 (by decide) ?_
      refine gw_lcmp (q := 156) hc dX2_passesOne_155 rfl (by rw [h52]; omega) (by decide) ?_
      refine gw_ifc_ge  (q := 159) (t := 163) hc dX2_passesOne_156 rfl (by decide)  (fun c156 => ?_) (fun c156 => ?_)
      · have hF : pmF S p m = fu (pm5 S p m) (p + 11 + 13 * m + 2) (pm5 S p m (p + 11 + 13 * m + 2) + 0) := by unfold pmF; rw [if_pos c122, if_neg (Int.not_lt.mpr c156)]
        refine gw_lconst (q := 164) hc dX2_passesOne_163 rfl (v := 0) rfl ?_
        refine gw_ladd (q := 165) hc dX2_passesOne_164 rfl ?_
        refine gw_last (q := 166) hc dX2_passesOne_165 rfl (tg_s hα) (by omega) (by omega) ?_
        refine gw_G (tu_s hα) ?_
        refine gw_lload (q := 168) hc dX2_passesOne_166 rfl xg_7 ?_
        refine gw_l2i (q := 169) hc dX2_passesOne_168 rfl ?_
        exact gw_iret hc dX2_passesOne_169 ⟨_, rfl, ⟨rfl, by rw [hF]⟩⟩
      · have hF : pmF S p m = fu (pm5 S p m) (p + 11 + 13 * m + 2) (pm5 S p m (p + 11 + 13 * m + 2) + 1) := by unfold pmF; rw [if_pos c122, if_pos c156]
        refine gw_lconst (q := 160) hc dX2_passesOne_159 rfl (v := 1) rfl ?_
        refine gw_goto (q := 164) hc dX2_passesOne_160 (by decide) ?_
        refine gw_ladd (q := 165) hc dX2_passesOne_164 rfl ?_
        refine gw_last (q := 166) hc dX2_passesOne_165 rfl (tg_s hα) (by omega) (by omega) ?_
        refine gw_G (tu_s hα) ?_
        refine gw_lload (q := 168) hc dX2_passesOne_166 rfl xg_7 ?_
        refine gw_l2i (q := 169) hc dX2_passesOne_168 rfl ?_
        exact gw_iret hc dX2_passesOne_169 ⟨_, rfl, ⟨rfl, by rw [hF]⟩⟩

theorem mw_X2_passes : mV "EnergyDiscsModel" yX2_passes cX2_passes 6 (some FieldType.int) 2 := ⟨⟨rfl, by decide +kernel, by decide +kernel, by decide +kernel⟩, q1377, qs54, q82, q1378⟩
set_option maxHeartbeats 4000000 in
theorem m_X2_passes {l : Launch} {D : va_G} {X : Nat → Nat} {b0 : Nat} {α : Nat → Nat} {S P L V Pd : Int → Int} {kn ln : Int} {G : gM} (hα : aN α) {t : Int} {T : Int} (hW : pasW S T) (hT : T ≤ 200000) (ht : 0 ≤ t ∧ t ≤ 100000) : gMet l D X b0 yX2_passes cX2_passes 6 (some FieldType.int) (rmE 5 0 0) [.ref (α 0), .int (iI 0), .int (iI t)] (tG D α S P kn L V Pd ln G) (eI (paT S t.toNat) (tG D α (paF S t.toNat) P kn L V Pd ln G)) := by
  refine gm_start (own := "EnergyDiscsModel") (lv := [some (.ref (α 0)), some (.int (iI 0)), some (.int (iI t)), none, none, none]) (by decide +kernel) rfl (Nat.le_of_ble_eq_true rfl) rfl (fun p_ e_ s_ m_ args_ below_ meth_ c_ hc hnm => ?_)
  have hT0 := hW.2.2.2.2.1
  refine gw_iconst (q := 1) hc dX2_passes_0 rfl ?_
  refine gw_istore_n (q := 2) hc dX2_passes_1 rfl rfl xs_3 (by decide) (n2p xg_2 rfl) ?_
  refine gw_iconst (q := 3) hc dX2_passes_2 rfl ?_
  refine gw_istore (q := 5) hc dX2_passes_3 rfl xs_4 (by decide) (n2p xg_3 rfl) ?_
  refine gw_loop (σ := Nat × Int) (fun x => (x.1 : Int) ≤ t ∧ x.2 = paT S x.1) (fun x => (t - x.1).toNat) (fun x => tG D α (paF S x.1) P kn L V Pd ln G) (fun x => [some (.ref (α 0)), some (.int (iI 0)), some (.int (iI t)), some (.int (iI x.2)), some (.int (iI (x.1 : Int))), none]) ?_ (0, 0) ⟨by dsimp only; omega, rfl⟩
  rintro ⟨n, sm⟩ hI5 ih5
  try dsimp only at hI5 ⊢
  have hpa := (pa_inv hW n).1
  have hpT := paT_bd hW n
  have h7 := hpa.1.1
  have hsame := (pa_inv hW n).2
  refine gw_iload (q := 7) hc dX2_passes_5 rfl xg_4 ?_
  refine gw_iload_n (q := 8) hc dX2_passes_7 rfl rfl xg_2 ?_
  refine gw_icmp_ge  (q := 11) (t := 60) hc dX2_passes_8 rfl (by decide) (by omega) (by omega) (fun c8 => ?_) (fun c8 => ?_)
  · skip
    refine gw_iload_n (q := 61) hc dX2_passes_60 rfl rfl xg_3 ?_
    exact gw_iret hc dX2_passes_61 ⟨_, rfl, ⟨by rw [hI5.2, show n = t.toNat by omega], by rw [show n = t.toNat by omega]⟩⟩
  · skip
    refine gw_iconst (q := 12) hc dX2_passes_11 rfl ?_
    refine gw_istore (q := 14) hc dX2_passes_12 rfl xs_5 (by decide) (n2p xg_4 rfl) ?_
    refine gw_loop (σ := Nat × Int) (fun x => (x.1 : Int) ≤ paF S n 7 ∧ x.2 = sm + mnT (paF S n) x.1) (fun x => (paF S n 7 - x.1).toNat) (fun x => tG D α (mnS (paF S n) x.1) P kn L V Pd ln G) (fun x => [some (.ref (α 0)), some (.int (iI 0)), some (.int (iI t)), some (.int (iI x.2)), some (.int (iI (n : Int))), some (.int (iI (x.1 : Int)))]) ?_ (0, sm) ⟨by dsimp only; omega, by dsimp only; simp [mnT]⟩
    rintro ⟨k, sm2⟩ hI14 ih14
    try dsimp only at hI14 ⊢
    obtain ⟨i1, i2, i3, i4, i5⟩ := mn_inv hpa k hI14.1
    have hmT := mnT_bd hpa k hI14.1
    have e7 : mnS (paF S n) k 7 = paF S n 7 := i1.1
    refine gw_iload (q := 16) hc dX2_passes_14 rfl xg_5 ?_
    refine gw_aload_n (q := 17) hc dX2_passes_16 rfl rfl xg_0 ?_
    refine gw_bipush (q := 19) hc dX2_passes_17 rfl (by decide) ?_
    refine gw_callV (q := 22) (bc' := 0) (bs' := 0) (As := [_]) hc dX2_passes_19 rfl q1293 mw_X2_num (rc_o hc cE_MO (tg_m hα)) rfl rfl (m_X2_num hα (by omega)) ⟨Nat.le_of_ble_eq_true rfl, Nat.le_of_ble_eq_true rfl⟩ (Nat.le_of_ble_eq_true rfl) (Nat.le_of_ble_eq_true rfl) (Nat.le_of_ble_eq_true rfl) (goI fun r19 G19 h19 => ?_)
    obtain ⟨rfl, rfl⟩ := h19
    rw [e7]
    refine gw_icmp_ge  (q := 25) (t := 41) hc dX2_passes_22 rfl (by decide) (by omega) (by omega) (fun c22 => ?_) (fun c22 => ?_)
    · skip
      refine gw_aload_n (q := 42) hc dX2_passes_41 rfl rfl xg_0 ?_
      refine gw_get (q := 45) hc dX2_passes_42 rfl cE_MO 0 (by decide) q1252 (fun _ h => h) (tg_m hα) xg_0 ?_
      refine gw_iload_n (q := 46) hc dX2_passes_45 rfl rfl xg_1 ?_
      refine gw_bipush (q := 48) hc dX2_passes_46 rfl (by decide) ?_
      refine gw_iadd (q := 49) hc dX2_passes_48 rfl ?_
      refine gw_dup2_11 (q := 50) hc dX2_passes_49 rfl rfl rfl ?_
      refine gw_lald (q := 51) hc dX2_passes_50 rfl (tg_s hα) (by omega) (by omega) ?_
      refine gw_lconst (q := 52) hc dX2_passes_51 rfl (v := 1) rfl ?_
      refine gw_ladd (q := 53) hc dX2_passes_52 rfl ?_
      refine gw_last (q := 54) hc dX2_passes_53 rfl (tg_s hα) (by omega) (by omega) ?_
      refine gw_G (tu_s hα) ?_
      refine gw_G (show _ = tG D α (paF S (n + 1)) P kn L V Pd ln G from by rw [show k = (paF S n 7).toNat by omega]; rfl) ?_
      refine gw_iinc (q := 57) hc dX2_passes_54 rfl xg_4 xs_4 (by decide) (n2p xg_3 rfl) ?_
      refine gw_goto (q := 5) hc dX2_passes_57 (by decide) ?_
      refine gw_drop (i := 5) xs_5 ?_
      exact ih5 (n + 1, sm2) (by dsimp only; exact ⟨by omega, by rw [hI14.2, hI5.2, show k = (paF S n 7).toNat by omega]; rfl⟩) (by dsimp only; omega)
    · skip
      refine gw_iload_n (q := 26) hc dX2_passes_25 rfl rfl xg_3 ?_
      refine gw_aload_n (q := 27) hc dX2_passes_26 rfl rfl xg_0 ?_
      refine gw_iload_n (q := 28) hc dX2_passes_27 rfl rfl xg_1 ?_
      refine gw_iload (q := 30) hc dX2_passes_28 rfl xg_5 ?_
      refine gw_callV (q := 33) (bc' := 0) (bs' := 0) (As := [_, _]) hc dX2_passes_30 rfl q1379 mw_X2_passesOne (rc_o hc cE_MO (tg_m hα)) rfl rfl (m_X2_passesOne hα (T := T + n) (Or.inl rfl) ⟨by omega, by omega⟩ (tree_E i1 hpa.1) (load_E i1 hpa.2.1) (st_E (fun j a b => by rw [Int.zero_add]; exact i2 j a (by omega)) hpa.2.2.1) (i4 k (by omega) (by omega)) (by rw [i2 _ (by omega) (by omega), hpa.2.2.2.1]; omega)) ⟨Nat.le_of_ble_eq_true rfl, Nat.le_of_ble_eq_true rfl⟩ (Nat.le_of_ble_eq_true rfl) (Nat.le_of_ble_eq_true rfl) (Nat.le_of_ble_eq_true rfl) (goI fun r30 G30 h30 => ?_)
      obtain ⟨rfl, rfl⟩ := h30
      refine gw_iadd (q := 34) hc dX2_passes_33 rfl ?_
      refine gw_istore_n (q := 35) hc dX2_passes_34 rfl rfl xs_3 (by decide) (n2p xg_2 rfl) ?_
      refine gw_iinc (q := 38) hc dX2_passes_35 rfl xg_5 xs_5 (by decide) (n2p xg_4 rfl) ?_
      refine gw_goto (q := 14) hc dX2_passes_38 (by decide) ?_
      exact ih14 (k + 1, sm2 + pmT (mnS (paF S n) k) 0 k) (by dsimp only; exact ⟨by omega, by rw [hI14.2]; simp only [mnT]; omega⟩) (by dsimp only; omega)

