/-! ===== the twin: orders, undo, saving ===== -/
set_option maxRecDepth 100000
section TWR
variable {D : va_G} {α : Nat → Nat} {S P L V Pd : Int → Int} {kn : Int} {G : gM}
theorem tw_c {l : List Int} {c : Int} : tG D α S P kn L V (fu (wr Pd 0 l) (l.length : Int) c) ((l.length : Int) + 1) G = tG D α S P kn L V (wr Pd 0 (l ++ [c])) ((l ++ [c]).length : Int) G := by
  rw [← wr_app]
  simp only [Int.zero_add, wr, List.length_append, List.length_cons, List.length_nil]
  rfl
theorem tw_n {l : List Int} {v : Int} : tG D α S P kn L V (wr (wr Pd 0 l) (l.length : Int) (decL v)) ((l.length : Int) + nd v) G = tG D α S P kn L V (wr Pd 0 (l ++ decL v)) ((l ++ decL v).length : Int) G := by
  rw [← wr_app]
  simp only [Int.zero_add, List.length_append, decL_len]
  rfl
end TWR
theorem faF_e {Pd : Int → Int} {ln q : Int} {n : Nat} : faF Pd ln (n + 1) q = if oeF Pd ln q < 0 then -1 - oeF Pd ln q else if oeF Pd ln q = ln then -6 else if cd Pd ln (oeF Pd ln q) ≠ 59 then oeF Pd ln q else faF Pd ln n (oeF Pd ln q + 1) := rfl
theorem caF_e {Pd : Int → Int} {ln q : Int} {S : Int → Int} {n : Nat} : caF Pd ln (n + 1) S q = if q < ln ∧ wyF Pd ln S q = 0 then ((caF Pd ln n (dsF Pd ln S q) (oeF Pd ln q + 1)).1, (caF Pd ln n (dsF Pd ln S q) (oeF Pd ln q + 1)).2 + 1) else (S, 0) := rfl
theorem faF_r {Pd : Int → Int} {ln : Int} (hp : padW Pd ln) : ∀ (k : Nat) (q : Int), 0 ≤ q → q ≤ 80 → -6 ≤ faF Pd ln k q ∧ faF Pd ln k q ≤ 200
  | 0, _, _, _ => by simp [faF]
  | k + 1, q, h0, h8 => by
    have hr := oeF_r (Pd := Pd) (ln := ln) (q := q) h0
    have hl := hp.1
    rw [faF_e]
    by_cases c1 : oeF Pd ln q < 0
    · rw [if_pos c1]; omega
    rw [if_neg c1]
    by_cases c2 : oeF Pd ln q = ln
    · rw [if_pos c2]; omega
    rw [if_neg c2]
    by_cases c3 : cd Pd ln (oeF Pd ln q) ≠ 59
    · rw [if_pos c3]; omega
    rw [if_neg c3]
    have := cd_o (Pd := Pd) (ln := ln) (q := oeF Pd ln q) (c := 59) (by omega) (by omega)
    exact faF_r hp k _ (by omega) (by omega)
theorem wyF_r {Pd : Int → Int} {ln q : Int} {S : Int → Int} : -10 ≤ wyF Pd ln S q ∧ wyF Pd ln S q ≤ 0 := by
  unfold wyF wnM wnL wnO wnP wnT wnI
  (repeat' split) <;> omega
/-- carried out: from a fault-free text -/
theorem fa_step {Pd : Int → Int} {ln q : Int} {k : Nat} (h : faF Pd ln (k + 1) q = -6) (h0 : 0 ≤ q) : 0 ≤ oeF Pd ln q ∧ (oeF Pd ln q = ln ∨ (cd Pd ln (oeF Pd ln q) = 59 ∧ faF Pd ln k (oeF Pd ln q + 1) = -6)) := by
  rw [faF_e] at h
  by_cases c1 : oeF Pd ln q < 0
  · rw [if_pos c1] at h; omega
  rw [if_neg c1] at h
  by_cases c2 : oeF Pd ln q = ln
  · exact ⟨by omega, Or.inl c2⟩
  rw [if_neg c2] at h
  by_cases c3 : cd Pd ln (oeF Pd ln q) ≠ 59
  · rw [if_pos c3] at h; omega
  rw [if_neg c3] at h
  exact ⟨by omega, Or.inr ⟨by omega, h⟩⟩

theorem mw_X2_write : mV "EnergyDiscsModel" yX2_write cX2_write 2 (some FieldType.int) 1 := ⟨⟨rfl, by decide +kernel, by decide +kernel, by decide +kernel⟩, q1404, q1405, q82, q1406⟩
set_option maxHeartbeats 4000000 in
theorem m_X2_write {l : Launch} {D : va_G} {X : Nat → Nat} {b0 : Nat} {α : Nat → Nat} {S P L V Pd : Int → Int} {kn ln : Int} {G : gM} (hα : aN α) {m : Int} {N : Int} (hW : rowW S N) (hN : N < 2147483648) (hm : rI m) : gMet l D X b0 yX2_write cX2_write 2 (some FieldType.int) (rmE 2 0 0) [.ref (α 0), .int (iI m)] (tG D α S P kn L V Pd ln G) (pI fun r G' => (¬ (0 ≤ m ∧ m < S 7) ∧ r = -1 ∧ G' = tG D α S P kn L V Pd ln G) ∨ ((0 ≤ m ∧ m < S 7) ∧ r = ((wrL S m).length : Int) ∧ G' = tG D α S P kn L V (wr Pd 0 (wrL S m)) ((wrL S m).length : Int) G)) := by
  refine gm_start (own := "EnergyDiscsModel") (lv := [some (.ref (α 0)), some (.int (iI m))]) (by decide +kernel) rfl (Nat.le_of_ble_eq_true rfl) rfl (fun p_ e_ s_ m_ args_ below_ meth_ c_ hc hnm => ?_)
  have h7 := rw_7 hW
  have h8 := rw_8 hW
  have h6 := rw_6 hW
  refine gw_aload_n (q := 1) hc dX2_write_0 rfl rfl xg_0 ?_
  refine gw_iload_n (q := 2) hc dX2_write_1 rfl rfl xg_1 ?_
  refine gw_callV (q := 5) (bc' := 0) (bs' := 0) (As := [_]) hc dX2_write_2 rfl q1305 mw_X2_isMeter (rc_o hc cE_MO (tg_m hα)) rfl rfl (m_X2_isMeter hα (by omega) (by omega)) ⟨Nat.le_of_ble_eq_true rfl, Nat.le_of_ble_eq_true rfl⟩ (Nat.le_of_ble_eq_true rfl) (Nat.le_of_ble_eq_true rfl) (Nat.le_of_ble_eq_true rfl) (goI fun r2 G2 h2 => ?_)
  obtain ⟨b2, rfl⟩ := h2
  refine gw_if_ne  (q := 8) (t := 10) hc dX2_write_5 rfl (by decide) (by omega) (fun c5 => ?_) (fun c5 => ?_)
  · have hM1 : 0 ≤ m ∧ m < S 7 := by omega
    have hm1 := rw_m hW m hM1.1 hM1.2
    have hsl := hW.2.2.2.2 m hM1.1 hM1.2
    have n1 := nd_bd (v := S (11 + 13 * m + 3))
    have n2 := nd_bd (v := S (11 + 13 * m + 4))
    have n3 := nd_bd (v := S (11 + 13 * m + 6))
    refine gw_aload_n (q := 11) hc dX2_write_10 rfl rfl xg_0 ?_
    refine gw_iconst (q := 12) hc dX2_write_11 rfl ?_
    refine gw_put (q := 15) hc dX2_write_12 rfl cE_MO 6 (by decide) q1258 (fun _ h => h) rfl (tg_m hα) ⟨rfl, rfl⟩ xs_6 (Nat.le_of_ble_eq_true rfl) ?_
    refine gw_G (tu_m hα) ?_
    refine gw_G (show _ = tG D α S P kn L V (wr Pd 0 []) (([] : List Int).length : Int) G from rfl) ?_
    refine gw_aload_n (q := 16) hc dX2_write_15 rfl rfl xg_0 ?_
    refine gw_bipush (q := 18) hc dX2_write_16 rfl (by decide) ?_
    refine gw_callV (q := 21) (bc' := 0) (bs' := 0) (As := [_]) hc dX2_write_18 rfl q1407 mw_X2_types (rc_o hc cE_MO (tg_m hα)) rfl rfl (m_X2_types hα (by simp only [List.length_append, List.length_cons, List.length_nil, decL_len]; omega)) ⟨Nat.le_of_ble_eq_true rfl, Nat.le_of_ble_eq_true rfl⟩ (Nat.le_of_ble_eq_true rfl) (Nat.le_of_ble_eq_true rfl) (Nat.le_of_ble_eq_true rfl) (goV fun G18 h18 => ?_)
    subst h18
    refine gw_G tw_c ?_
    refine gw_aload_n (q := 22) hc dX2_write_21 rfl rfl xg_0 ?_
    refine gw_aload_n (q := 23) hc dX2_write_22 rfl rfl xg_0 ?_
    refine gw_iload_n (q := 24) hc dX2_write_23 rfl rfl xg_1 ?_
    refine gw_iconst (q := 25) hc dX2_write_24 rfl ?_
    refine gw_callV (q := 28) (bc' := 0) (bs' := 0) (As := [_, _]) hc dX2_write_25 rfl q1350 mw_X2_its (rc_o hc cE_MO (tg_m hα)) rfl rfl (m_X2_its hα (by omega)) ⟨Nat.le_of_ble_eq_true rfl, Nat.le_of_ble_eq_true rfl⟩ (Nat.le_of_ble_eq_true rfl) (Nat.le_of_ble_eq_true rfl) (Nat.le_of_ble_eq_true rfl) (goI fun r25 G25 h25 => ?_)
    obtain ⟨rfl, rfl⟩ := h25
    refine gw_callV (q := 31) (bc' := 0) (bs' := 0) (As := [_]) hc dX2_write_28 rfl q1411 mw_X2_typesNumber (rc_o hc cE_MO (tg_m hα)) rfl rfl (m_X2_typesNumber hα (by omega) (by simp only [List.length_append, List.length_cons, List.length_nil, decL_len]; omega)) ⟨Nat.le_of_ble_eq_true rfl, Nat.le_of_ble_eq_true rfl⟩ (Nat.le_of_ble_eq_true rfl) (Nat.le_of_ble_eq_true rfl) (Nat.le_of_ble_eq_true rfl) (goV fun G28 h28 => ?_)
    subst h28
    refine gw_G tw_n ?_
    refine gw_aload_n (q := 32) hc dX2_write_31 rfl rfl xg_0 ?_
    refine gw_bipush (q := 34) hc dX2_write_32 rfl (by decide) ?_
    refine gw_callV (q := 37) (bc' := 0) (bs' := 0) (As := [_]) hc dX2_write_34 rfl q1407 mw_X2_types (rc_o hc cE_MO (tg_m hα)) rfl rfl (m_X2_types hα (by simp only [List.length_append, List.length_cons, List.length_nil, decL_len]; omega)) ⟨Nat.le_of_ble_eq_true rfl, Nat.le_of_ble_eq_true rfl⟩ (Nat.le_of_ble_eq_true rfl) (Nat.le_of_ble_eq_true rfl) (Nat.le_of_ble_eq_true rfl) (goV fun G34 h34 => ?_)
    subst h34
    refine gw_G tw_c ?_
    refine gw_aload_n (q := 38) hc dX2_write_37 rfl rfl xg_0 ?_
    refine gw_aload_n (q := 39) hc dX2_write_38 rfl rfl xg_0 ?_
    refine gw_iload_n (q := 40) hc dX2_write_39 rfl rfl xg_1 ?_
    refine gw_iconst (q := 41) hc dX2_write_40 rfl ?_
    refine gw_callV (q := 44) (bc' := 0) (bs' := 0) (As := [_, _]) hc dX2_write_41 rfl q1350 mw_X2_its (rc_o hc cE_MO (tg_m hα)) rfl rfl (m_X2_its hα (by omega)) ⟨Nat.le_of_ble_eq_true rfl, Nat.le_of_ble_eq_true rfl⟩ (Nat.le_of_ble_eq_true rfl) (Nat.le_of_ble_eq_true rfl) (Nat.le_of_ble_eq_true rfl) (goI fun r41 G41 h41 => ?_)
    obtain ⟨rfl, rfl⟩ := h41
    refine gw_callV (q := 47) (bc' := 0) (bs' := 0) (As := [_]) hc dX2_write_44 rfl q1411 mw_X2_typesNumber (rc_o hc cE_MO (tg_m hα)) rfl rfl (m_X2_typesNumber hα (by omega) (by simp only [List.length_append, List.length_cons, List.length_nil, decL_len]; omega)) ⟨Nat.le_of_ble_eq_true rfl, Nat.le_of_ble_eq_true rfl⟩ (Nat.le_of_ble_eq_true rfl) (Nat.le_of_ble_eq_true rfl) (Nat.le_of_ble_eq_true rfl) (goV fun G44 h44 => ?_)
    subst h44
    refine gw_G tw_n ?_
    refine gw_aload_n (q := 48) hc dX2_write_47 rfl rfl xg_0 ?_
    refine gw_bipush (q := 50) hc dX2_write_48 rfl (by decide) ?_
    refine gw_callV (q := 53) (bc' := 0) (bs' := 0) (As := [_]) hc dX2_write_50 rfl q1407 mw_X2_types (rc_o hc cE_MO (tg_m hα)) rfl rfl (m_X2_types hα (by simp only [List.length_append, List.length_cons, List.length_nil, decL_len]; omega)) ⟨Nat.le_of_ble_eq_true rfl, Nat.le_of_ble_eq_true rfl⟩ (Nat.le_of_ble_eq_true rfl) (Nat.le_of_ble_eq_true rfl) (Nat.le_of_ble_eq_true rfl) (goV fun G50 h50 => ?_)
    subst h50
    refine gw_G tw_c ?_
    refine gw_aload_n (q := 54) hc dX2_write_53 rfl rfl xg_0 ?_
    refine gw_aload_n (q := 55) hc dX2_write_54 rfl rfl xg_0 ?_
    refine gw_iload_n (q := 56) hc dX2_write_55 rfl rfl xg_1 ?_
    refine gw_bipush (q := 58) hc dX2_write_56 rfl (by decide) ?_
    refine gw_callV (q := 61) (bc' := 0) (bs' := 0) (As := [_, _]) hc dX2_write_58 rfl q1350 mw_X2_its (rc_o hc cE_MO (tg_m hα)) rfl rfl (m_X2_its hα (by omega)) ⟨Nat.le_of_ble_eq_true rfl, Nat.le_of_ble_eq_true rfl⟩ (Nat.le_of_ble_eq_true rfl) (Nat.le_of_ble_eq_true rfl) (Nat.le_of_ble_eq_true rfl) (goI fun r58 G58 h58 => ?_)
    obtain ⟨rfl, rfl⟩ := h58
    refine gw_callV (q := 64) (bc' := 0) (bs' := 0) (As := [_]) hc dX2_write_61 rfl q1411 mw_X2_typesNumber (rc_o hc cE_MO (tg_m hα)) rfl rfl (m_X2_typesNumber hα (by omega) (by simp only [List.length_append, List.length_cons, List.length_nil, decL_len]; omega)) ⟨Nat.le_of_ble_eq_true rfl, Nat.le_of_ble_eq_true rfl⟩ (Nat.le_of_ble_eq_true rfl) (Nat.le_of_ble_eq_true rfl) (Nat.le_of_ble_eq_true rfl) (goV fun G61 h61 => ?_)
    subst h61
    refine gw_G tw_n ?_
    refine gw_aload_n (q := 65) hc dX2_write_64 rfl rfl xg_0 ?_
    refine gw_iload_n (q := 66) hc dX2_write_65 rfl rfl xg_1 ?_
    refine gw_bipush (q := 68) hc dX2_write_66 rfl (by decide) ?_
    refine gw_callV (q := 71) (bc' := 0) (bs' := 0) (As := [_, _]) hc dX2_write_68 rfl q1350 mw_X2_its (rc_o hc cE_MO (tg_m hα)) rfl rfl (m_X2_its hα (by omega)) ⟨Nat.le_of_ble_eq_true rfl, Nat.le_of_ble_eq_true rfl⟩ (Nat.le_of_ble_eq_true rfl) (Nat.le_of_ble_eq_true rfl) (Nat.le_of_ble_eq_true rfl) (goI fun r68 G68 h68 => ?_)
    obtain ⟨rfl, rfl⟩ := h68
    refine gw_iconst (q := 72) hc dX2_write_71 rfl ?_
    refine gw_icmp_ne  (q := 75) (t := 81) hc dX2_write_72 rfl (by decide) (by omega) (by omega) (fun c72 => ?_) (fun c72 => ?_)
    · skip
      refine gw_aload_n (q := 82) hc dX2_write_81 rfl rfl xg_0 ?_
      refine gw_get (q := 85) hc dX2_write_82 rfl cE_MO 6 (by decide) q1258 (fun _ h => h) (tg_m hα) xg_6 ?_
      exact gw_iret hc dX2_write_85 ⟨_, rfl, Or.inr ⟨hM1, by rw [wrL, if_neg (by omega)]; simp only [List.length_append, List.length_cons, List.length_nil, decL_len]; push_cast; omega, by rw [wrL, if_neg (by omega)]; simp only [List.append_assoc, List.cons_append, List.nil_append, List.append_nil]⟩⟩
    · skip
      refine gw_aload_n (q := 76) hc dX2_write_75 rfl rfl xg_0 ?_
      refine gw_bipush (q := 78) hc dX2_write_76 rfl (by decide) ?_
      refine gw_callV (q := 81) (bc' := 0) (bs' := 0) (As := [_]) hc dX2_write_78 rfl q1407 mw_X2_types (rc_o hc cE_MO (tg_m hα)) rfl rfl (m_X2_types hα (by simp only [List.length_append, List.length_cons, List.length_nil, decL_len]; omega)) ⟨Nat.le_of_ble_eq_true rfl, Nat.le_of_ble_eq_true rfl⟩ (Nat.le_of_ble_eq_true rfl) (Nat.le_of_ble_eq_true rfl) (Nat.le_of_ble_eq_true rfl) (goV fun G78 h78 => ?_)
      subst h78
      refine gw_G tw_c ?_
      refine gw_aload_n (q := 82) hc dX2_write_81 rfl rfl xg_0 ?_
      refine gw_get (q := 85) hc dX2_write_82 rfl cE_MO 6 (by decide) q1258 (fun _ h => h) (tg_m hα) xg_6 ?_
      exact gw_iret hc dX2_write_85 ⟨_, rfl, Or.inr ⟨hM1, by rw [wrL, if_pos (by omega)]; simp only [List.length_append, List.length_cons, List.length_nil, decL_len]; push_cast; omega, by rw [wrL, if_pos (by omega)]; simp only [List.append_assoc, List.cons_append, List.nil_append, List.append_nil]⟩⟩
  · skip
    refine gw_iconst (q := 9) hc dX2_write_8 rfl ?_
    exact gw_iret hc dX2_write_9 ⟨_, rfl, Or.inl ⟨by omega, rfl, rfl⟩⟩

theorem mw_X2_put : mV "EnergyDiscsModel" yX2_put cX2_put 8 (some FieldType.int) 1 := ⟨⟨rfl, by decide +kernel, by decide +kernel, by decide +kernel⟩, q1479, q1480, q82, q1481⟩
set_option maxHeartbeats 4000000 in
theorem m_X2_put {l : Launch} {D : va_G} {X : Nat → Nat} {b0 : Nat} {α : Nat → Nat} {S P L V Pd : Int → Int} {kn ln : Int} {G : gM} (hα : aN α)  {v : Int64} (hln : 0 ≤ ln ∧ ln ≤ 80) : gMet l D X b0 yX2_put cX2_put 8 (some FieldType.int) (rmE 1 0 0) [.ref (α 0), .long v] (tG D α S P kn L V Pd ln G) (pI fun r G' => r = puF v ln ∧ G' = if puF v ln < 0 then tG D α S P kn L V Pd ln G else tG D α S P kn L V (wr Pd ln (puL v (pM v 8).toNat)) (ln + pM v 8) G) := by
  refine gm_start (own := "EnergyDiscsModel") (lv := [some (.ref (α 0)), some (.long v), none, none, none, none, none, none]) (by decide +kernel) rfl (Nat.le_of_ble_eq_true rfl) rfl (fun p_ e_ s_ m_ args_ below_ meth_ c_ hc hnm => ?_)
  refine gw_iconst (q := 1) hc dX2_put_0 rfl ?_
  refine gw_istore_n (q := 2) hc dX2_put_1 rfl rfl xs_3 (by decide) (n2p xg_2 rfl) ?_
  refine gw_iconst (q := 3) hc dX2_put_2 rfl ?_
  refine gw_istore (q := 5) hc dX2_put_3 rfl xs_4 (by decide) (n2p xg_3 rfl) ?_
  refine gw_iconst (q := 6) hc dX2_put_5 rfl ?_
  refine gw_istore (q := 8) hc dX2_put_6 rfl xs_5 (by decide) (n2p xg_4 rfl) ?_
  refine gw_iconst (q := 9) hc dX2_put_8 rfl ?_
  refine gw_istore (q := 11) hc dX2_put_9 rfl xs_6 (by decide) (n2p xg_5 rfl) ?_
  refine gw_loop (σ := Nat) (fun x => x ≤ 8) (fun x => 8 - x) (fun x => tG D α S P kn L V Pd ln G) (fun x => [some (.ref (α 0)), some (.long v), none, some (.int (iI (pM v x))), some (.int (iI (pR v x))), some (.int (iI (pE v x))), some (.int (iI (x : Int))), none]) ?_ 0 (by omega)
  rintro k hI11 ih11
  try dsimp only at hI11 ⊢
  have hb := by_r v k
  have hE := pE_r (v := v) (k := k)
  have hR := pR_r (v := v) (k := k)
  have hMm := pM_r (v := v) (k := k)
  refine gw_iload (q := 13) hc dX2_put_11 rfl xg_6 ?_
  refine gw_bipush (q := 15) hc dX2_put_13 rfl (by decide) ?_
  refine gw_icmp_ge  (q := 18) (t := 105) hc dX2_put_15 rfl (by decide) (by omega) (by omega) (fun c15 => ?_) (fun c15 => ?_)
  · skip
    obtain rfl : k = 8 := by omega
    refine gw_iload (q := 107) hc dX2_put_105 rfl xg_4 ?_
    refine gw_if_eq  (q := 110) (t := 114) hc dX2_put_107 rfl (by decide) (by omega) (fun c107 => ?_) (fun c107 => ?_)
    · skip
      refine gw_bipush (q := 116) hc dX2_put_114 rfl (by decide) ?_
      exact gw_iret hc dX2_put_116 ⟨_, rfl, by have e : puF v ln = -2 := (by unfold puF; rw [if_pos (by omega)]); exact ⟨e.symm, (if_pos (by rw [e]; decide)).symm⟩⟩
    · skip
      refine gw_iload_n (q := 111) hc dX2_put_110 rfl rfl xg_3 ?_
      refine gw_if_ne  (q := 114) (t := 117) hc dX2_put_111 rfl (by decide) (by omega) (fun c111 => ?_) (fun c111 => ?_)
      · skip
        refine gw_aload_n (q := 118) hc dX2_put_117 rfl rfl xg_0 ?_
        refine gw_get (q := 121) hc dX2_put_118 rfl cE_MO 6 (by decide) q1258 (fun _ h => h) (tg_m hα) xg_6 ?_
        refine gw_iload_n (q := 122) hc dX2_put_121 rfl rfl xg_3 ?_
        refine gw_iadd (q := 123) hc dX2_put_122 rfl ?_
        refine gw_bipush (q := 125) hc dX2_put_123 rfl (by decide) ?_
        refine gw_icmp_le  (q := 128) (t := 131) hc dX2_put_125 rfl (by decide) (by omega) (by omega) (fun c125 => ?_) (fun c125 => ?_)
        · skip
          refine gw_iload_n (q := 132) hc dX2_put_131 rfl rfl xg_3 ?_
          refine gw_iconst (q := 133) hc dX2_put_132 rfl ?_
          refine gw_isub (q := 134) hc dX2_put_133 rfl ?_
          refine gw_istore (q := 136) hc dX2_put_134 rfl xs_6 (by decide) (n2p xg_5 rfl) ?_
          rw [show pM v 8 - 1 = (((pM v 8).toNat : Int)) - 1 by omega]
          refine gw_loop (σ := Nat × (Int → Int) × Int) (fun x => (x.1 ≤ 8 ∧ 0 ≤ x.2.2 ∧ x.2.2 + x.1 = ln + pM v 8) ∧ wr x.2.1 x.2.2 (puL v x.1) = wr Pd ln (puL v (pM v 8).toNat)) (fun x => x.1) (fun x => tG D α S P kn L V x.2.1 x.2.2 G) (fun x => [some (.ref (α 0)), some (.long v), none, some (.int (iI (pM v 8))), some (.int (iI (pR v 8))), some (.int (iI (pE v 8))), some (.int (iI ((x.1 : Int) - 1))), none]) ?_ ((pM v 8).toNat, Pd, ln) ⟨⟨by dsimp only; omega, by dsimp only; omega, by dsimp only; omega⟩, rfl⟩
          rintro ⟨i, Q, u⟩ hI136 ih136
          try dsimp only at hI136 ⊢
          refine gw_iload (q := 138) hc dX2_put_136 rfl xg_6 ?_
          refine gw_if_lt  (q := 141) (t := 163) hc dX2_put_138 rfl (by decide) (by omega) (fun c138 => ?_) (fun c138 => ?_)
          · skip
            refine gw_aload_n (q := 164) hc dX2_put_163 rfl rfl xg_0 ?_
            refine gw_get (q := 167) hc dX2_put_164 rfl cE_MO 6 (by decide) q1258 (fun _ h => h) (tg_m hα) xg_6 ?_
            exact gw_iret hc dX2_put_167 ⟨_, rfl, ⟨by unfold puF; rw [if_neg (by omega), if_neg (by omega)]; omega, by rw [if_neg (by unfold puF; rw [if_neg (by omega), if_neg (by omega)]; omega)]; rw [show i = 0 by omega] at hI136; rw [show u = ln + pM v 8 by omega]; exact congrArg (fun z => tG D α S P kn L V z (ln + pM v 8) G) hI136.2⟩⟩
          · skip
            obtain ⟨j, rfl⟩ : ∃ j, i = j + 1 := ⟨i - 1, by omega⟩
            rw [show (((j + 1 : Nat) : Int) - 1) = (j : Int) by omega]
            refine gw_aload_n (q := 142) hc dX2_put_141 rfl rfl xg_0 ?_
            refine gw_lload_n (q := 143) hc dX2_put_142 rfl rfl xg_1 ?_
            refine gw_bipush (q := 145) hc dX2_put_143 rfl (by decide) ?_
            refine gw_iload (q := 147) hc dX2_put_145 rfl xg_6 ?_
            refine gw_imul (q := 148) hc dX2_put_147 rfl ?_
            refine gw_lshr (q := 149) hc dX2_put_148 rfl ?_
            refine gw_ldc2 (q := 152) hc dX2_put_149 rfl (v := 255) q1482 (by decide) ?_
            refine gw_land (q := 153) hc dX2_put_152 rfl ?_
            refine gw_st (show _ = [.long (jI (byF v j)), .ref (α 0)] from congrArg (fun z => [Value.long z, .ref (α 0)]) (jI_of _)) ?_
            refine gw_l2i (q := 154) hc dX2_put_153 rfl ?_
            refine gw_callV (q := 157) (bc' := 0) (bs' := 0) (As := [_]) hc dX2_put_154 rfl q1407 mw_X2_types (rc_o hc cE_MO (tg_m hα)) rfl rfl (m_X2_types hα (by omega)) ⟨Nat.le_of_ble_eq_true rfl, Nat.le_of_ble_eq_true rfl⟩ (Nat.le_of_ble_eq_true rfl) (Nat.le_of_ble_eq_true rfl) (Nat.le_of_ble_eq_true rfl) (goV fun G154 h154 => ?_)
            subst h154
            refine gw_iinc (q := 160) hc dX2_put_157 rfl xg_6 xs_6 (by decide) (n2p xg_5 rfl) ?_
            refine gw_goto (q := 136) hc dX2_put_160 (by decide) ?_
            rw [show ((j : Int) + -1) = (j : Int) - 1 by omega]
            exact ih136 (j, fu Q u (byF v j), u + 1) (by dsimp only; exact ⟨⟨by omega, by omega, by omega⟩, hI136.2⟩) (by dsimp only; omega)
        · skip
          refine gw_bipush (q := 130) hc dX2_put_128 rfl (by decide) ?_
          exact gw_iret hc dX2_put_130 ⟨_, rfl, by have e : puF v ln = -4 := (by unfold puF; rw [if_neg (by omega), if_pos (by omega)]); exact ⟨e.symm, (if_pos (by rw [e]; decide)).symm⟩⟩
      · skip
        refine gw_bipush (q := 116) hc dX2_put_114 rfl (by decide) ?_
        exact gw_iret hc dX2_put_116 ⟨_, rfl, by have e : puF v ln = -2 := (by unfold puF; rw [if_pos (by omega)]); exact ⟨e.symm, (if_pos (by rw [e]; decide)).symm⟩⟩
  · skip
    refine gw_lload_n (q := 19) hc dX2_put_18 rfl rfl xg_1 ?_
    refine gw_bipush (q := 21) hc dX2_put_19 rfl (by decide) ?_
    refine gw_iload (q := 23) hc dX2_put_21 rfl xg_6 ?_
    refine gw_imul (q := 24) hc dX2_put_23 rfl ?_
    refine gw_lshr (q := 25) hc dX2_put_24 rfl ?_
    refine gw_ldc2 (q := 28) hc dX2_put_25 rfl (v := 255) q1482 (by decide) ?_
    refine gw_land (q := 29) hc dX2_put_28 rfl ?_
    refine gw_st (show _ = [.long (jI (byF v k))] from congrArg (fun z => [Value.long z]) (jI_of _)) ?_
    refine gw_l2i (q := 30) hc dX2_put_29 rfl ?_
    refine gw_istore (q := 32) hc dX2_put_30 rfl xs_7 (by decide) (n2p xg_6 rfl) ?_
    refine gw_iload (q := 34) hc dX2_put_32 rfl xg_5 ?_
    refine gw_if_ne  (q := 37) (t := 42) hc dX2_put_34 rfl (by decide) (by omega) (fun c34 => ?_) (fun c34 => ?_)
    · skip
      refine gw_iconst (q := 43) hc dX2_put_42 rfl ?_
      refine gw_goto (q := 47) hc dX2_put_43 (by decide) ?_
      refine gw_istore (q := 49) hc dX2_put_47 rfl xs_5 (by decide) (n2p xg_4 rfl) ?_
      refine gw_iload (q := 51) hc dX2_put_49 rfl xg_4 ?_
      refine gw_if_eq  (q := 54) (t := 83) hc dX2_put_51 rfl (by decide) (by omega) (fun c51 => ?_) (fun c51 => ?_)
      · skip
        refine gw_iconst (q := 84) hc dX2_put_83 rfl ?_
        refine gw_istore (q := 86) hc dX2_put_84 rfl xs_4 (by decide) (n2p xg_3 rfl) ?_
        refine gw_iload_n (q := 87) hc dX2_put_86 rfl rfl xg_3 ?_
        refine gw_iload (q := 89) hc dX2_put_87 rfl xg_5 ?_
        refine gw_if_eq  (q := 92) (t := 96) hc dX2_put_89 rfl (by decide) (by omega) (fun c89 => ?_) (fun c89 => ?_)
        · skip
          refine gw_iconst (q := 97) hc dX2_put_96 rfl ?_
          refine gw_iadd (q := 98) hc dX2_put_97 rfl ?_
          refine gw_istore_n (q := 99) hc dX2_put_98 rfl rfl xs_3 (by decide) (n2p xg_2 rfl) ?_
          exfalso; omega
        · skip
          refine gw_iconst (q := 93) hc dX2_put_92 rfl ?_
          refine gw_goto (q := 97) hc dX2_put_93 (by decide) ?_
          refine gw_iadd (q := 98) hc dX2_put_97 rfl ?_
          refine gw_istore_n (q := 99) hc dX2_put_98 rfl rfl xs_3 (by decide) (n2p xg_2 rfl) ?_
          refine gw_drop (i := 7) xs_7 ?_
          have eE : pE v (k + 1) = 1 := by simp only [pE]; split <;> omega
          have eR : pR v (k + 1) = 0 := by simp only [pR, eE]; (repeat' split) <;> omega
          refine gw_lv (show _ = [some (.ref (α 0)), some (.long v), none, some (.int (iI (pM v (k + 1)))), some (.int (iI (pR v (k + 1)))), some (.int (iI (pE v (k + 1)))), some (.int (iI (k : Int))), none] from by rw [eE, eR, show pM v (k + 1) = pM v k + 0 from by simp only [pM, eE]; rfl]) ?_
          refine gw_iinc (q := 102) hc dX2_put_99 rfl xg_6 xs_6 (by decide) (n2p xg_5 rfl) ?_
          refine gw_goto (q := 11) hc dX2_put_102 (by decide) ?_
          exact ih11 (k + 1) (by omega) (by omega)
      · skip
        refine gw_iload (q := 56) hc dX2_put_54 rfl xg_5 ?_
        refine gw_if_eq  (q := 59) (t := 67) hc dX2_put_56 rfl (by decide) (by omega) (fun c56 => ?_) (fun c56 => ?_)
        · skip
          refine gw_iload (q := 69) hc dX2_put_67 rfl xg_7 ?_
          refine gw_bipush (q := 71) hc dX2_put_69 rfl (by decide) ?_
          refine gw_bipush (q := 73) hc dX2_put_71 rfl (by decide) ?_
          refine gw_callS (q := 76) (bc' := 0) (bs' := 0) (As := [_, _, _]) hc dX2_put_73 rfl q1280 mw_X2_in rfl rfl (m_X2_in (by omega) (by omega) (by omega)) ⟨Nat.le_of_ble_eq_true rfl, Nat.le_of_ble_eq_true rfl⟩ (Nat.le_of_ble_eq_true rfl) (Nat.le_of_ble_eq_true rfl) (Nat.le_of_ble_eq_true rfl) (goI fun r73 G73 h73 => ?_)
          obtain ⟨b73, rfl⟩ := h73
          refine gw_if_eq  (q := 79) (t := 83) hc dX2_put_76 rfl (by decide) (by omega) (fun c76 => ?_) (fun c76 => ?_)
          · skip
            refine gw_iconst (q := 84) hc dX2_put_83 rfl ?_
            refine gw_istore (q := 86) hc dX2_put_84 rfl xs_4 (by decide) (n2p xg_3 rfl) ?_
            refine gw_iload_n (q := 87) hc dX2_put_86 rfl rfl xg_3 ?_
            refine gw_iload (q := 89) hc dX2_put_87 rfl xg_5 ?_
            refine gw_if_eq  (q := 92) (t := 96) hc dX2_put_89 rfl (by decide) (by omega) (fun c89 => ?_) (fun c89 => ?_)
            · skip
              refine gw_iconst (q := 97) hc dX2_put_96 rfl ?_
              refine gw_iadd (q := 98) hc dX2_put_97 rfl ?_
              refine gw_istore_n (q := 99) hc dX2_put_98 rfl rfl xs_3 (by decide) (n2p xg_2 rfl) ?_
              exfalso; omega
            · skip
              refine gw_iconst (q := 93) hc dX2_put_92 rfl ?_
              refine gw_goto (q := 97) hc dX2_put_93 (by decide) ?_
              refine gw_iadd (q := 98) hc dX2_put_97 rfl ?_
              refine gw_istore_n (q := 99) hc dX2_put_98 rfl rfl xs_3 (by decide) (n2p xg_2 rfl) ?_
              refine gw_drop (i := 7) xs_7 ?_
              have eE : pE v (k + 1) = 1 := by simp only [pE]; split <;> omega
              have eR : pR v (k + 1) = 0 := by simp only [pR, eE]; (repeat' split) <;> omega
              refine gw_lv (show _ = [some (.ref (α 0)), some (.long v), none, some (.int (iI (pM v (k + 1)))), some (.int (iI (pR v (k + 1)))), some (.int (iI (pE v (k + 1)))), some (.int (iI (k : Int))), none] from by rw [eE, eR, show pM v (k + 1) = pM v k + 0 from by simp only [pM, eE]; rfl]) ?_
              refine gw_iinc (q := 102) hc dX2_put_99 rfl xg_6 xs_6 (by decide) (n2p xg_5 rfl) ?_
              refine gw_goto (q := 11) hc dX2_put_102 (by decide) ?_
              exact ih11 (k + 1) (by omega) (by omega)
          · skip
            refine gw_iconst (q := 80) hc dX2_put_79 rfl ?_
            refine gw_goto (q := 84) hc dX2_put_80 (by decide) ?_
            refine gw_istore (q := 86) hc dX2_put_84 rfl xs_4 (by decide) (n2p xg_3 rfl) ?_
            refine gw_iload_n (q := 87) hc dX2_put_86 rfl rfl xg_3 ?_
            refine gw_iload (q := 89) hc dX2_put_87 rfl xg_5 ?_
            refine gw_if_eq  (q := 92) (t := 96) hc dX2_put_89 rfl (by decide) (by omega) (fun c89 => ?_) (fun c89 => ?_)
            · skip
              refine gw_iconst (q := 97) hc dX2_put_96 rfl ?_
              refine gw_iadd (q := 98) hc dX2_put_97 rfl ?_
              refine gw_istore_n (q := 99) hc dX2_put_98 rfl rfl xs_3 (by decide) (n2p xg_2 rfl) ?_
              exfalso; omega
            · skip
              refine gw_iconst (q := 93) hc dX2_put_92 rfl ?_
              refine gw_goto (q := 97) hc dX2_put_93 (by decide) ?_
              refine gw_iadd (q := 98) hc dX2_put_97 rfl ?_
              refine gw_istore_n (q := 99) hc dX2_put_98 rfl rfl xs_3 (by decide) (n2p xg_2 rfl) ?_
              refine gw_drop (i := 7) xs_7 ?_
              have eE : pE v (k + 1) = 1 := by simp only [pE]; split <;> omega
              have eR : pR v (k + 1) = 1 := by simp only [pR, eE]; (repeat' split) <;> omega
              refine gw_lv (show _ = [some (.ref (α 0)), some (.long v), none, some (.int (iI (pM v (k + 1)))), some (.int (iI (pR v (k + 1)))), some (.int (iI (pE v (k + 1)))), some (.int (iI (k : Int))), none] from by rw [eE, eR, show pM v (k + 1) = pM v k + 0 from by simp only [pM, eE]; rfl]) ?_
              refine gw_iinc (q := 102) hc dX2_put_99 rfl xg_6 xs_6 (by decide) (n2p xg_5 rfl) ?_
              refine gw_goto (q := 11) hc dX2_put_102 (by decide) ?_
              exact ih11 (k + 1) (by omega) (by omega)
        · skip
          refine gw_iload (q := 61) hc dX2_put_59 rfl xg_7 ?_
          refine gw_if_ne  (q := 64) (t := 83) hc dX2_put_61 rfl (by decide) (by omega) (fun c61 => ?_) (fun c61 => ?_)
          · skip
            refine gw_iconst (q := 84) hc dX2_put_83 rfl ?_
            refine gw_istore (q := 86) hc dX2_put_84 rfl xs_4 (by decide) (n2p xg_3 rfl) ?_
            refine gw_iload_n (q := 87) hc dX2_put_86 rfl rfl xg_3 ?_
            refine gw_iload (q := 89) hc dX2_put_87 rfl xg_5 ?_
            refine gw_if_eq  (q := 92) (t := 96) hc dX2_put_89 rfl (by decide) (by omega) (fun c89 => ?_) (fun c89 => ?_)
            · skip
              refine gw_iconst (q := 97) hc dX2_put_96 rfl ?_
              refine gw_iadd (q := 98) hc dX2_put_97 rfl ?_
              refine gw_istore_n (q := 99) hc dX2_put_98 rfl rfl xs_3 (by decide) (n2p xg_2 rfl) ?_
              exfalso; omega
            · skip
              refine gw_iconst (q := 93) hc dX2_put_92 rfl ?_
              refine gw_goto (q := 97) hc dX2_put_93 (by decide) ?_
              refine gw_iadd (q := 98) hc dX2_put_97 rfl ?_
              refine gw_istore_n (q := 99) hc dX2_put_98 rfl rfl xs_3 (by decide) (n2p xg_2 rfl) ?_
              refine gw_drop (i := 7) xs_7 ?_
              have eE : pE v (k + 1) = 1 := by simp only [pE]; split <;> omega
              have eR : pR v (k + 1) = 0 := by simp only [pR, eE]; (repeat' split) <;> omega
              refine gw_lv (show _ = [some (.ref (α 0)), some (.long v), none, some (.int (iI (pM v (k + 1)))), some (.int (iI (pR v (k + 1)))), some (.int (iI (pE v (k + 1)))), some (.int (iI (k : Int))), none] from by rw [eE, eR, show pM v (k + 1) = pM v k + 0 from by simp only [pM, eE]; rfl]) ?_
              refine gw_iinc (q := 102) hc dX2_put_99 rfl xg_6 xs_6 (by decide) (n2p xg_5 rfl) ?_
              refine gw_goto (q := 11) hc dX2_put_102 (by decide) ?_
              exact ih11 (k + 1) (by omega) (by omega)
          · skip
            refine gw_goto (q := 79) hc dX2_put_64 (by decide) ?_
            refine gw_iconst (q := 80) hc dX2_put_79 rfl ?_
            refine gw_goto (q := 84) hc dX2_put_80 (by decide) ?_
            refine gw_istore (q := 86) hc dX2_put_84 rfl xs_4 (by decide) (n2p xg_3 rfl) ?_
            refine gw_iload_n (q := 87) hc dX2_put_86 rfl rfl xg_3 ?_
            refine gw_iload (q := 89) hc dX2_put_87 rfl xg_5 ?_
            refine gw_if_eq  (q := 92) (t := 96) hc dX2_put_89 rfl (by decide) (by omega) (fun c89 => ?_) (fun c89 => ?_)
            · skip
              refine gw_iconst (q := 97) hc dX2_put_96 rfl ?_
              refine gw_iadd (q := 98) hc dX2_put_97 rfl ?_
              refine gw_istore_n (q := 99) hc dX2_put_98 rfl rfl xs_3 (by decide) (n2p xg_2 rfl) ?_
              exfalso; omega
            · skip
              refine gw_iconst (q := 93) hc dX2_put_92 rfl ?_
              refine gw_goto (q := 97) hc dX2_put_93 (by decide) ?_
              refine gw_iadd (q := 98) hc dX2_put_97 rfl ?_
              refine gw_istore_n (q := 99) hc dX2_put_98 rfl rfl xs_3 (by decide) (n2p xg_2 rfl) ?_
              refine gw_drop (i := 7) xs_7 ?_
              have eE : pE v (k + 1) = 1 := by simp only [pE]; split <;> omega
              have eR : pR v (k + 1) = 1 := by simp only [pR, eE]; (repeat' split) <;> omega
              refine gw_lv (show _ = [some (.ref (α 0)), some (.long v), none, some (.int (iI (pM v (k + 1)))), some (.int (iI (pR v (k + 1)))), some (.int (iI (pE v (k + 1)))), some (.int (iI (k : Int))), none] from by rw [eE, eR, show pM v (k + 1) = pM v k + 0 from by simp only [pM, eE]; rfl]) ?_
              refine gw_iinc (q := 102) hc dX2_put_99 rfl xg_6 xs_6 (by decide) (n2p xg_5 rfl) ?_
              refine gw_goto (q := 11) hc dX2_put_102 (by decide) ?_
              exact ih11 (k + 1) (by omega) (by omega)
    · skip
      refine gw_iload (q := 39) hc dX2_put_37 rfl xg_7 ?_
      refine gw_if_ne  (q := 42) (t := 46) hc dX2_put_39 rfl (by decide) (by omega) (fun c39 => ?_) (fun c39 => ?_)
      · skip
        refine gw_iconst (q := 47) hc dX2_put_46 rfl ?_
        refine gw_istore (q := 49) hc dX2_put_47 rfl xs_5 (by decide) (n2p xg_4 rfl) ?_
        refine gw_iload (q := 51) hc dX2_put_49 rfl xg_4 ?_
        refine gw_if_eq  (q := 54) (t := 83) hc dX2_put_51 rfl (by decide) (by omega) (fun c51 => ?_) (fun c51 => ?_)
        · skip
          refine gw_iconst (q := 84) hc dX2_put_83 rfl ?_
          refine gw_istore (q := 86) hc dX2_put_84 rfl xs_4 (by decide) (n2p xg_3 rfl) ?_
          refine gw_iload_n (q := 87) hc dX2_put_86 rfl rfl xg_3 ?_
          refine gw_iload (q := 89) hc dX2_put_87 rfl xg_5 ?_
          refine gw_if_eq  (q := 92) (t := 96) hc dX2_put_89 rfl (by decide) (by omega) (fun c89 => ?_) (fun c89 => ?_)
          · skip
            refine gw_iconst (q := 97) hc dX2_put_96 rfl ?_
            refine gw_iadd (q := 98) hc dX2_put_97 rfl ?_
            refine gw_istore_n (q := 99) hc dX2_put_98 rfl rfl xs_3 (by decide) (n2p xg_2 rfl) ?_
            refine gw_drop (i := 7) xs_7 ?_
            have eE : pE v (k + 1) = 0 := by simp only [pE]; split <;> omega
            have eR : pR v (k + 1) = 0 := by simp only [pR, eE]; (repeat' split) <;> omega
            refine gw_lv (show _ = [some (.ref (α 0)), some (.long v), none, some (.int (iI (pM v (k + 1)))), some (.int (iI (pR v (k + 1)))), some (.int (iI (pE v (k + 1)))), some (.int (iI (k : Int))), none] from by rw [eE, eR, show pM v (k + 1) = pM v k + 1 from by simp only [pM, eE]; rfl]) ?_
            refine gw_iinc (q := 102) hc dX2_put_99 rfl xg_6 xs_6 (by decide) (n2p xg_5 rfl) ?_
            refine gw_goto (q := 11) hc dX2_put_102 (by decide) ?_
            exact ih11 (k + 1) (by omega) (by omega)
          · skip
            refine gw_iconst (q := 93) hc dX2_put_92 rfl ?_
            refine gw_goto (q := 97) hc dX2_put_93 (by decide) ?_
            refine gw_iadd (q := 98) hc dX2_put_97 rfl ?_
            refine gw_istore_n (q := 99) hc dX2_put_98 rfl rfl xs_3 (by decide) (n2p xg_2 rfl) ?_
            exfalso; omega
        · skip
          refine gw_iload (q := 56) hc dX2_put_54 rfl xg_5 ?_
          refine gw_if_eq  (q := 59) (t := 67) hc dX2_put_56 rfl (by decide) (by omega) (fun c56 => ?_) (fun c56 => ?_)
          · skip
            refine gw_iload (q := 69) hc dX2_put_67 rfl xg_7 ?_
            refine gw_bipush (q := 71) hc dX2_put_69 rfl (by decide) ?_
            refine gw_bipush (q := 73) hc dX2_put_71 rfl (by decide) ?_
            refine gw_callS (q := 76) (bc' := 0) (bs' := 0) (As := [_, _, _]) hc dX2_put_73 rfl q1280 mw_X2_in rfl rfl (m_X2_in (by omega) (by omega) (by omega)) ⟨Nat.le_of_ble_eq_true rfl, Nat.le_of_ble_eq_true rfl⟩ (Nat.le_of_ble_eq_true rfl) (Nat.le_of_ble_eq_true rfl) (Nat.le_of_ble_eq_true rfl) (goI fun r73 G73 h73 => ?_)
            obtain ⟨b73, rfl⟩ := h73
            refine gw_if_eq  (q := 79) (t := 83) hc dX2_put_76 rfl (by decide) (by omega) (fun c76 => ?_) (fun c76 => ?_)
            · skip
              refine gw_iconst (q := 84) hc dX2_put_83 rfl ?_
              refine gw_istore (q := 86) hc dX2_put_84 rfl xs_4 (by decide) (n2p xg_3 rfl) ?_
              refine gw_iload_n (q := 87) hc dX2_put_86 rfl rfl xg_3 ?_
              refine gw_iload (q := 89) hc dX2_put_87 rfl xg_5 ?_
              refine gw_if_eq  (q := 92) (t := 96) hc dX2_put_89 rfl (by decide) (by omega) (fun c89 => ?_) (fun c89 => ?_)
              · skip
                refine gw_iconst (q := 97) hc dX2_put_96 rfl ?_
                refine gw_iadd (q := 98) hc dX2_put_97 rfl ?_
                refine gw_istore_n (q := 99) hc dX2_put_98 rfl rfl xs_3 (by decide) (n2p xg_2 rfl) ?_
                refine gw_drop (i := 7) xs_7 ?_
                have eE : pE v (k + 1) = 0 := by simp only [pE]; split <;> omega
                have eR : pR v (k + 1) = 0 := by simp only [pR, eE]; (repeat' split) <;> omega
                refine gw_lv (show _ = [some (.ref (α 0)), some (.long v), none, some (.int (iI (pM v (k + 1)))), some (.int (iI (pR v (k + 1)))), some (.int (iI (pE v (k + 1)))), some (.int (iI (k : Int))), none] from by rw [eE, eR, show pM v (k + 1) = pM v k + 1 from by simp only [pM, eE]; rfl]) ?_
                refine gw_iinc (q := 102) hc dX2_put_99 rfl xg_6 xs_6 (by decide) (n2p xg_5 rfl) ?_
                refine gw_goto (q := 11) hc dX2_put_102 (by decide) ?_
                exact ih11 (k + 1) (by omega) (by omega)
              · skip
                refine gw_iconst (q := 93) hc dX2_put_92 rfl ?_
                refine gw_goto (q := 97) hc dX2_put_93 (by decide) ?_
                refine gw_iadd (q := 98) hc dX2_put_97 rfl ?_
                refine gw_istore_n (q := 99) hc dX2_put_98 rfl rfl xs_3 (by decide) (n2p xg_2 rfl) ?_
                exfalso; omega
            · skip
              refine gw_iconst (q := 80) hc dX2_put_79 rfl ?_
              refine gw_goto (q := 84) hc dX2_put_80 (by decide) ?_
              refine gw_istore (q := 86) hc dX2_put_84 rfl xs_4 (by decide) (n2p xg_3 rfl) ?_
              refine gw_iload_n (q := 87) hc dX2_put_86 rfl rfl xg_3 ?_
              refine gw_iload (q := 89) hc dX2_put_87 rfl xg_5 ?_
              refine gw_if_eq  (q := 92) (t := 96) hc dX2_put_89 rfl (by decide) (by omega) (fun c89 => ?_) (fun c89 => ?_)
              · skip
                refine gw_iconst (q := 97) hc dX2_put_96 rfl ?_
                refine gw_iadd (q := 98) hc dX2_put_97 rfl ?_
                refine gw_istore_n (q := 99) hc dX2_put_98 rfl rfl xs_3 (by decide) (n2p xg_2 rfl) ?_
                refine gw_drop (i := 7) xs_7 ?_
                have eE : pE v (k + 1) = 0 := by simp only [pE]; split <;> omega
                have eR : pR v (k + 1) = 1 := by simp only [pR, eE]; (repeat' split) <;> omega
                refine gw_lv (show _ = [some (.ref (α 0)), some (.long v), none, some (.int (iI (pM v (k + 1)))), some (.int (iI (pR v (k + 1)))), some (.int (iI (pE v (k + 1)))), some (.int (iI (k : Int))), none] from by rw [eE, eR, show pM v (k + 1) = pM v k + 1 from by simp only [pM, eE]; rfl]) ?_
                refine gw_iinc (q := 102) hc dX2_put_99 rfl xg_6 xs_6 (by decide) (n2p xg_5 rfl) ?_
                refine gw_goto (q := 11) hc dX2_put_102 (by decide) ?_
                exact ih11 (k + 1) (by omega) (by omega)
              · skip
                refine gw_iconst (q := 93) hc dX2_put_92 rfl ?_
                refine gw_goto (q := 97) hc dX2_put_93 (by decide) ?_
                refine gw_iadd (q := 98) hc dX2_put_97 rfl ?_
                refine gw_istore_n (q := 99) hc dX2_put_98 rfl rfl xs_3 (by decide) (n2p xg_2 rfl) ?_
                exfalso; omega
          · skip
            refine gw_iload (q := 61) hc dX2_put_59 rfl xg_7 ?_
            refine gw_if_ne  (q := 64) (t := 83) hc dX2_put_61 rfl (by decide) (by omega) (fun c61 => ?_) (fun c61 => ?_)
            · skip
              refine gw_iconst (q := 84) hc dX2_put_83 rfl ?_
              refine gw_istore (q := 86) hc dX2_put_84 rfl xs_4 (by decide) (n2p xg_3 rfl) ?_
              refine gw_iload_n (q := 87) hc dX2_put_86 rfl rfl xg_3 ?_
              refine gw_iload (q := 89) hc dX2_put_87 rfl xg_5 ?_
              refine gw_if_eq  (q := 92) (t := 96) hc dX2_put_89 rfl (by decide) (by omega) (fun c89 => ?_) (fun c89 => ?_)
              · skip
                refine gw_iconst (q := 97) hc dX2_put_96 rfl ?_
                refine gw_iadd (q := 98) hc dX2_put_97 rfl ?_
                refine gw_istore_n (q := 99) hc dX2_put_98 rfl rfl xs_3 (by decide) (n2p xg_2 rfl) ?_
                refine gw_drop (i := 7) xs_7 ?_
                have eE : pE v (k + 1) = 0 := by simp only [pE]; split <;> omega
                have eR : pR v (k + 1) = 0 := by simp only [pR, eE]; (repeat' split) <;> omega
                refine gw_lv (show _ = [some (.ref (α 0)), some (.long v), none, some (.int (iI (pM v (k + 1)))), some (.int (iI (pR v (k + 1)))), some (.int (iI (pE v (k + 1)))), some (.int (iI (k : Int))), none] from by rw [eE, eR, show pM v (k + 1) = pM v k + 1 from by simp only [pM, eE]; rfl]) ?_
                refine gw_iinc (q := 102) hc dX2_put_99 rfl xg_6 xs_6 (by decide) (n2p xg_5 rfl) ?_
                refine gw_goto (q := 11) hc dX2_put_102 (by decide) ?_
                exact ih11 (k + 1) (by omega) (by omega)
              · skip
                refine gw_iconst (q := 93) hc dX2_put_92 rfl ?_
                refine gw_goto (q := 97) hc dX2_put_93 (by decide) ?_
                refine gw_iadd (q := 98) hc dX2_put_97 rfl ?_
                refine gw_istore_n (q := 99) hc dX2_put_98 rfl rfl xs_3 (by decide) (n2p xg_2 rfl) ?_
                exfalso; omega
            · skip
              refine gw_goto (q := 79) hc dX2_put_64 (by decide) ?_
              refine gw_iconst (q := 80) hc dX2_put_79 rfl ?_
              refine gw_goto (q := 84) hc dX2_put_80 (by decide) ?_
              refine gw_istore (q := 86) hc dX2_put_84 rfl xs_4 (by decide) (n2p xg_3 rfl) ?_
              refine gw_iload_n (q := 87) hc dX2_put_86 rfl rfl xg_3 ?_
              refine gw_iload (q := 89) hc dX2_put_87 rfl xg_5 ?_
              refine gw_if_eq  (q := 92) (t := 96) hc dX2_put_89 rfl (by decide) (by omega) (fun c89 => ?_) (fun c89 => ?_)
              · skip
                refine gw_iconst (q := 97) hc dX2_put_96 rfl ?_
                refine gw_iadd (q := 98) hc dX2_put_97 rfl ?_
                refine gw_istore_n (q := 99) hc dX2_put_98 rfl rfl xs_3 (by decide) (n2p xg_2 rfl) ?_
                refine gw_drop (i := 7) xs_7 ?_
                have eE : pE v (k + 1) = 0 := by simp only [pE]; split <;> omega
                have eR : pR v (k + 1) = 1 := by simp only [pR, eE]; (repeat' split) <;> omega
                refine gw_lv (show _ = [some (.ref (α 0)), some (.long v), none, some (.int (iI (pM v (k + 1)))), some (.int (iI (pR v (k + 1)))), some (.int (iI (pE v (k + 1)))), some (.int (iI (k : Int))), none] from by rw [eE, eR, show pM v (k + 1) = pM v k + 1 from by simp only [pM, eE]; rfl]) ?_
                refine gw_iinc (q := 102) hc dX2_put_99 rfl xg_6 xs_6 (by decide) (n2p xg_5 rfl) ?_
                refine gw_goto (q := 11) hc dX2_put_102 (by decide) ?_
                exact ih11 (k + 1) (by omega) (by omega)
              · skip
                refine gw_iconst (q := 93) hc dX2_put_92 rfl ?_
                refine gw_goto (q := 97) hc dX2_put_93 (by decide) ?_
                refine gw_iadd (q := 98) hc dX2_put_97 rfl ?_
                refine gw_istore_n (q := 99) hc dX2_put_98 rfl rfl xs_3 (by decide) (n2p xg_2 rfl) ?_
                exfalso; omega
      · skip
        refine gw_iconst (q := 43) hc dX2_put_42 rfl ?_
        refine gw_goto (q := 47) hc dX2_put_43 (by decide) ?_
        refine gw_istore (q := 49) hc dX2_put_47 rfl xs_5 (by decide) (n2p xg_4 rfl) ?_
        refine gw_iload (q := 51) hc dX2_put_49 rfl xg_4 ?_
        refine gw_if_eq  (q := 54) (t := 83) hc dX2_put_51 rfl (by decide) (by omega) (fun c51 => ?_) (fun c51 => ?_)
        · skip
          refine gw_iconst (q := 84) hc dX2_put_83 rfl ?_
          refine gw_istore (q := 86) hc dX2_put_84 rfl xs_4 (by decide) (n2p xg_3 rfl) ?_
          refine gw_iload_n (q := 87) hc dX2_put_86 rfl rfl xg_3 ?_
          refine gw_iload (q := 89) hc dX2_put_87 rfl xg_5 ?_
          refine gw_if_eq  (q := 92) (t := 96) hc dX2_put_89 rfl (by decide) (by omega) (fun c89 => ?_) (fun c89 => ?_)
          · skip
            refine gw_iconst (q := 97) hc dX2_put_96 rfl ?_
            refine gw_iadd (q := 98) hc dX2_put_97 rfl ?_
            refine gw_istore_n (q := 99) hc dX2_put_98 rfl rfl xs_3 (by decide) (n2p xg_2 rfl) ?_
            exfalso; omega
          · skip
            refine gw_iconst (q := 93) hc dX2_put_92 rfl ?_
            refine gw_goto (q := 97) hc dX2_put_93 (by decide) ?_
            refine gw_iadd (q := 98) hc dX2_put_97 rfl ?_
            refine gw_istore_n (q := 99) hc dX2_put_98 rfl rfl xs_3 (by decide) (n2p xg_2 rfl) ?_
            refine gw_drop (i := 7) xs_7 ?_
            have eE : pE v (k + 1) = 1 := by simp only [pE]; split <;> omega
            have eR : pR v (k + 1) = 0 := by simp only [pR, eE]; (repeat' split) <;> omega
            refine gw_lv (show _ = [some (.ref (α 0)), some (.long v), none, some (.int (iI (pM v (k + 1)))), some (.int (iI (pR v (k + 1)))), some (.int (iI (pE v (k + 1)))), some (.int (iI (k : Int))), none] from by rw [eE, eR, show pM v (k + 1) = pM v k + 0 from by simp only [pM, eE]; rfl]) ?_
            refine gw_iinc (q := 102) hc dX2_put_99 rfl xg_6 xs_6 (by decide) (n2p xg_5 rfl) ?_
            refine gw_goto (q := 11) hc dX2_put_102 (by decide) ?_
            exact ih11 (k + 1) (by omega) (by omega)
        · skip
          refine gw_iload (q := 56) hc dX2_put_54 rfl xg_5 ?_
          refine gw_if_eq  (q := 59) (t := 67) hc dX2_put_56 rfl (by decide) (by omega) (fun c56 => ?_) (fun c56 => ?_)
          · skip
            refine gw_iload (q := 69) hc dX2_put_67 rfl xg_7 ?_
            refine gw_bipush (q := 71) hc dX2_put_69 rfl (by decide) ?_
            refine gw_bipush (q := 73) hc dX2_put_71 rfl (by decide) ?_
            refine gw_callS (q := 76) (bc' := 0) (bs' := 0) (As := [_, _, _]) hc dX2_put_73 rfl q1280 mw_X2_in rfl rfl (m_X2_in (by omega) (by omega) (by omega)) ⟨Nat.le_of_ble_eq_true rfl, Nat.le_of_ble_eq_true rfl⟩ (Nat.le_of_ble_eq_true rfl) (Nat.le_of_ble_eq_true rfl) (Nat.le_of_ble_eq_true rfl) (goI fun r73 G73 h73 => ?_)
            obtain ⟨b73, rfl⟩ := h73
            refine gw_if_eq  (q := 79) (t := 83) hc dX2_put_76 rfl (by decide) (by omega) (fun c76 => ?_) (fun c76 => ?_)
            · skip
              refine gw_iconst (q := 84) hc dX2_put_83 rfl ?_
              refine gw_istore (q := 86) hc dX2_put_84 rfl xs_4 (by decide) (n2p xg_3 rfl) ?_
              refine gw_iload_n (q := 87) hc dX2_put_86 rfl rfl xg_3 ?_
              refine gw_iload (q := 89) hc dX2_put_87 rfl xg_5 ?_
              refine gw_if_eq  (q := 92) (t := 96) hc dX2_put_89 rfl (by decide) (by omega) (fun c89 => ?_) (fun c89 => ?_)
              · skip
                refine gw_iconst (q := 97) hc dX2_put_96 rfl ?_
                refine gw_iadd (q := 98) hc dX2_put_97 rfl ?_
                refine gw_istore_n (q := 99) hc dX2_put_98 rfl rfl xs_3 (by decide) (n2p xg_2 rfl) ?_
                exfalso; omega
              · skip
                refine gw_iconst (q := 93) hc dX2_put_92 rfl ?_
                refine gw_goto (q := 97) hc dX2_put_93 (by decide) ?_
                refine gw_iadd (q := 98) hc dX2_put_97 rfl ?_
                refine gw_istore_n (q := 99) hc dX2_put_98 rfl rfl xs_3 (by decide) (n2p xg_2 rfl) ?_
                refine gw_drop (i := 7) xs_7 ?_
                have eE : pE v (k + 1) = 1 := by simp only [pE]; split <;> omega
                have eR : pR v (k + 1) = 0 := by simp only [pR, eE]; (repeat' split) <;> omega
                refine gw_lv (show _ = [some (.ref (α 0)), some (.long v), none, some (.int (iI (pM v (k + 1)))), some (.int (iI (pR v (k + 1)))), some (.int (iI (pE v (k + 1)))), some (.int (iI (k : Int))), none] from by rw [eE, eR, show pM v (k + 1) = pM v k + 0 from by simp only [pM, eE]; rfl]) ?_
                refine gw_iinc (q := 102) hc dX2_put_99 rfl xg_6 xs_6 (by decide) (n2p xg_5 rfl) ?_
                refine gw_goto (q := 11) hc dX2_put_102 (by decide) ?_
                exact ih11 (k + 1) (by omega) (by omega)
            · skip
              refine gw_iconst (q := 80) hc dX2_put_79 rfl ?_
              refine gw_goto (q := 84) hc dX2_put_80 (by decide) ?_
              refine gw_istore (q := 86) hc dX2_put_84 rfl xs_4 (by decide) (n2p xg_3 rfl) ?_
              refine gw_iload_n (q := 87) hc dX2_put_86 rfl rfl xg_3 ?_
              refine gw_iload (q := 89) hc dX2_put_87 rfl xg_5 ?_
              refine gw_if_eq  (q := 92) (t := 96) hc dX2_put_89 rfl (by decide) (by omega) (fun c89 => ?_) (fun c89 => ?_)
              · skip
                refine gw_iconst (q := 97) hc dX2_put_96 rfl ?_
                refine gw_iadd (q := 98) hc dX2_put_97 rfl ?_
                refine gw_istore_n (q := 99) hc dX2_put_98 rfl rfl xs_3 (by decide) (n2p xg_2 rfl) ?_
                exfalso; omega
              · skip
                refine gw_iconst (q := 93) hc dX2_put_92 rfl ?_
                refine gw_goto (q := 97) hc dX2_put_93 (by decide) ?_
                refine gw_iadd (q := 98) hc dX2_put_97 rfl ?_
                refine gw_istore_n (q := 99) hc dX2_put_98 rfl rfl xs_3 (by decide) (n2p xg_2 rfl) ?_
                refine gw_drop (i := 7) xs_7 ?_
                have eE : pE v (k + 1) = 1 := by simp only [pE]; split <;> omega
                have eR : pR v (k + 1) = 1 := by simp only [pR, eE]; (repeat' split) <;> omega
                refine gw_lv (show _ = [some (.ref (α 0)), some (.long v), none, some (.int (iI (pM v (k + 1)))), some (.int (iI (pR v (k + 1)))), some (.int (iI (pE v (k + 1)))), some (.int (iI (k : Int))), none] from by rw [eE, eR, show pM v (k + 1) = pM v k + 0 from by simp only [pM, eE]; rfl]) ?_
                refine gw_iinc (q := 102) hc dX2_put_99 rfl xg_6 xs_6 (by decide) (n2p xg_5 rfl) ?_
                refine gw_goto (q := 11) hc dX2_put_102 (by decide) ?_
                exact ih11 (k + 1) (by omega) (by omega)
          · skip
            refine gw_iload (q := 61) hc dX2_put_59 rfl xg_7 ?_
            refine gw_if_ne  (q := 64) (t := 83) hc dX2_put_61 rfl (by decide) (by omega) (fun c61 => ?_) (fun c61 => ?_)
            · skip
              refine gw_iconst (q := 84) hc dX2_put_83 rfl ?_
              refine gw_istore (q := 86) hc dX2_put_84 rfl xs_4 (by decide) (n2p xg_3 rfl) ?_
              refine gw_iload_n (q := 87) hc dX2_put_86 rfl rfl xg_3 ?_
              refine gw_iload (q := 89) hc dX2_put_87 rfl xg_5 ?_
              refine gw_if_eq  (q := 92) (t := 96) hc dX2_put_89 rfl (by decide) (by omega) (fun c89 => ?_) (fun c89 => ?_)
              · skip
                refine gw_iconst (q := 97) hc dX2_put_96 rfl ?_
                refine gw_iadd (q := 98) hc dX2_put_97 rfl ?_
                refine gw_istore_n (q := 99) hc dX2_put_98 rfl rfl xs_3 (by decide) (n2p xg_2 rfl) ?_
                exfalso; omega
              · skip
                refine gw_iconst (q := 93) hc dX2_put_92 rfl ?_
                refine gw_goto (q := 97) hc dX2_put_93 (by decide) ?_
                refine gw_iadd (q := 98) hc dX2_put_97 rfl ?_
                refine gw_istore_n (q := 99) hc dX2_put_98 rfl rfl xs_3 (by decide) (n2p xg_2 rfl) ?_
                refine gw_drop (i := 7) xs_7 ?_
                have eE : pE v (k + 1) = 1 := by simp only [pE]; split <;> omega
                have eR : pR v (k + 1) = 0 := by simp only [pR, eE]; (repeat' split) <;> omega
                refine gw_lv (show _ = [some (.ref (α 0)), some (.long v), none, some (.int (iI (pM v (k + 1)))), some (.int (iI (pR v (k + 1)))), some (.int (iI (pE v (k + 1)))), some (.int (iI (k : Int))), none] from by rw [eE, eR, show pM v (k + 1) = pM v k + 0 from by simp only [pM, eE]; rfl]) ?_
                refine gw_iinc (q := 102) hc dX2_put_99 rfl xg_6 xs_6 (by decide) (n2p xg_5 rfl) ?_
                refine gw_goto (q := 11) hc dX2_put_102 (by decide) ?_
                exact ih11 (k + 1) (by omega) (by omega)
            · skip
              refine gw_goto (q := 79) hc dX2_put_64 (by decide) ?_
              refine gw_iconst (q := 80) hc dX2_put_79 rfl ?_
              refine gw_goto (q := 84) hc dX2_put_80 (by decide) ?_
              refine gw_istore (q := 86) hc dX2_put_84 rfl xs_4 (by decide) (n2p xg_3 rfl) ?_
              refine gw_iload_n (q := 87) hc dX2_put_86 rfl rfl xg_3 ?_
              refine gw_iload (q := 89) hc dX2_put_87 rfl xg_5 ?_
              refine gw_if_eq  (q := 92) (t := 96) hc dX2_put_89 rfl (by decide) (by omega) (fun c89 => ?_) (fun c89 => ?_)
              · skip
                refine gw_iconst (q := 97) hc dX2_put_96 rfl ?_
                refine gw_iadd (q := 98) hc dX2_put_97 rfl ?_
                refine gw_istore_n (q := 99) hc dX2_put_98 rfl rfl xs_3 (by decide) (n2p xg_2 rfl) ?_
                exfalso; omega
              · skip
                refine gw_iconst (q := 93) hc dX2_put_92 rfl ?_
                refine gw_goto (q := 97) hc dX2_put_93 (by decide) ?_
                refine gw_iadd (q := 98) hc dX2_put_97 rfl ?_
                refine gw_istore_n (q := 99) hc dX2_put_98 rfl rfl xs_3 (by decide) (n2p xg_2 rfl) ?_
                refine gw_drop (i := 7) xs_7 ?_
                have eE : pE v (k + 1) = 1 := by simp only [pE]; split <;> omega
                have eR : pR v (k + 1) = 1 := by simp only [pR, eE]; (repeat' split) <;> omega
                refine gw_lv (show _ = [some (.ref (α 0)), some (.long v), none, some (.int (iI (pM v (k + 1)))), some (.int (iI (pR v (k + 1)))), some (.int (iI (pE v (k + 1)))), some (.int (iI (k : Int))), none] from by rw [eE, eR, show pM v (k + 1) = pM v k + 0 from by simp only [pM, eE]; rfl]) ?_
                refine gw_iinc (q := 102) hc dX2_put_99 rfl xg_6 xs_6 (by decide) (n2p xg_5 rfl) ?_
                refine gw_goto (q := 11) hc dX2_put_102 (by decide) ?_
                exact ih11 (k + 1) (by omega) (by omega)

theorem mw_X2_whyNot : mV "EnergyDiscsModel" yX2_whyNot cX2_whyNot 3 (some FieldType.int) 1 := ⟨⟨rfl, by decide +kernel, by decide +kernel, by decide +kernel⟩, q1514, qs69, q82, q1515⟩
set_option maxHeartbeats 4000000 in
theorem m_X2_whyNot {l : Launch} {D : va_G} {X : Nat → Nat} {b0 : Nat} {α : Nat → Nat} {S P L V Pd : Int → Int} {kn ln : Int} {G : gM} (hα : aN α) {q : Int} {N : Int} (hW : rowW S N) (hp : padW Pd ln) (hq : 0 ≤ q ∧ q ≤ 80) : gMet l D X b0 yX2_whyNot cX2_whyNot 3 (some FieldType.int) (rmE 4 0 0) [.ref (α 0), .int (iI q)] (tG D α S P kn L V Pd ln G) (eI (wyF Pd ln S q) (tG D α S P kn L V Pd ln G)) := by
  refine gm_start (own := "EnergyDiscsModel") (lv := [some (.ref (α 0)), some (.int (iI q)), none]) (by decide +kernel) rfl (Nat.le_of_ble_eq_true rfl) rfl (fun p_ e_ s_ m_ args_ below_ meth_ c_ hc hnm => ?_)
  have h7 := rw_7 hW
  have h8 := rw_8 hW
  have h6 := rw_6 hW
  have hcr := cd_r hp hq.1
  have d1 := dg_r (Pd := Pd) (ln := ln) (q := q + 1)
  have n1 := nuF_bd (Pd := Pd) (ln := ln) (q := q + 1) (by omega)
  have n3 := nuF_bd (Pd := Pd) (ln := ln) (q := q + 3) (by omega)
  refine gw_aload_n (q := 1) hc dX2_whyNot_0 rfl rfl xg_0 ?_
  refine gw_iload_n (q := 2) hc dX2_whyNot_1 rfl rfl xg_1 ?_
  refine gw_iconst (q := 3) hc dX2_whyNot_2 rfl ?_
  refine gw_iadd (q := 4) hc dX2_whyNot_3 rfl ?_
  refine gw_callV (q := 7) (bc' := 0) (bs' := 0) (As := [_]) hc dX2_whyNot_4 rfl q1499 mw_X2_digit (rc_o hc cE_MO (tg_m hα)) rfl rfl (m_X2_digit hα hp (by omega)) ⟨Nat.le_of_ble_eq_true rfl, Nat.le_of_ble_eq_true rfl⟩ (Nat.le_of_ble_eq_true rfl) (Nat.le_of_ble_eq_true rfl) (Nat.le_of_ble_eq_true rfl) (goI fun r4 G4 h4 => ?_)
  obtain ⟨rfl, rfl⟩ := h4
  refine gw_istore_n (q := 8) hc dX2_whyNot_7 rfl rfl xs_2 (by decide) (n2p xg_1 rfl) ?_
  refine gw_aload_n (q := 9) hc dX2_whyNot_8 rfl rfl xg_0 ?_
  refine gw_iload_n (q := 10) hc dX2_whyNot_9 rfl rfl xg_1 ?_
  refine gw_callV (q := 13) (bc' := 0) (bs' := 0) (As := [_]) hc dX2_whyNot_10 rfl q1495 mw_X2_code (rc_o hc cE_MO (tg_m hα)) rfl rfl (m_X2_code hα hp (by omega)) ⟨Nat.le_of_ble_eq_true rfl, Nat.le_of_ble_eq_true rfl⟩ (Nat.le_of_ble_eq_true rfl) (Nat.le_of_ble_eq_true rfl) (Nat.le_of_ble_eq_true rfl) (goI fun r10 G10 h10 => ?_)
  obtain ⟨rfl, rfl⟩ := h10
  rcases (by omega : cd Pd ln q = 98 ∨ cd Pd ln q = 108 ∨ cd Pd ln q = 109 ∨ cd Pd ln q = 115 ∨ cd Pd ln q = 116 ∨ (cd Pd ln q ≠ 98 ∧ cd Pd ln q ≠ 108 ∧ cd Pd ln q ≠ 109 ∧ cd Pd ln q ≠ 115 ∧ cd Pd ln q ≠ 116)) with w13 | w13 | w13 | w13 | w13 | w13
  · refine gw_lookup (t := 123) hc dX2_whyNot_13 (by omega) (by decide) (by rw [w13] <;> rfl) (by decide) ?_
    refine gw_aload_n (q := 124) hc dX2_whyNot_123 rfl rfl xg_0 ?_
    refine gw_iload_n (q := 125) hc dX2_whyNot_124 rfl rfl xg_2 ?_
    refine gw_callV (q := 128) (bc' := 0) (bs' := 0) (As := [_]) hc dX2_whyNot_125 rfl q1346 mw_X2_whyNotTamper (rc_o hc cE_MO (tg_m hα)) rfl rfl (m_X2_whyNotTamper hα h7 (by omega) (fun k a b => (rw_m hW k a b).2.2.2.2.1)) ⟨Nat.le_of_ble_eq_true rfl, Nat.le_of_ble_eq_true rfl⟩ (Nat.le_of_ble_eq_true rfl) (Nat.le_of_ble_eq_true rfl) (Nat.le_of_ble_eq_true rfl) (goI fun r125 G125 h125 => ?_)
    obtain ⟨rfl, rfl⟩ := h125
    exact gw_iret hc dX2_whyNot_128 ⟨_, rfl, ⟨by unfold wyF; rw [if_neg (by omega), if_neg (by omega), if_neg (by omega), if_neg (by omega), if_pos w13], rfl⟩⟩
  · refine gw_lookup (t := 78) hc dX2_whyNot_13 (by omega) (by decide) (by rw [w13] <;> rfl) (by decide) ?_
    refine gw_aload_n (q := 79) hc dX2_whyNot_78 rfl rfl xg_0 ?_
    refine gw_iload_n (q := 80) hc dX2_whyNot_79 rfl rfl xg_2 ?_
    refine gw_aload_n (q := 81) hc dX2_whyNot_80 rfl rfl xg_0 ?_
    refine gw_iload_n (q := 82) hc dX2_whyNot_81 rfl rfl xg_1 ?_
    refine gw_iconst (q := 83) hc dX2_whyNot_82 rfl ?_
    refine gw_iadd (q := 84) hc dX2_whyNot_83 rfl ?_
    refine gw_callV (q := 87) (bc' := 0) (bs' := 0) (As := [_]) hc dX2_whyNot_84 rfl q1516 mw_X2_numberAt (rc_o hc cE_MO (tg_m hα)) rfl rfl (m_X2_numberAt hα hp (by omega)) ⟨Nat.le_of_ble_eq_true rfl, Nat.le_of_ble_eq_true rfl⟩ (Nat.le_of_ble_eq_true rfl) (Nat.le_of_ble_eq_true rfl) (Nat.le_of_ble_eq_true rfl) (goI fun r84 G84 h84 => ?_)
    obtain ⟨rfl, rfl⟩ := h84
    refine gw_callV (q := 90) (bc' := 0) (bs' := 0) (As := [_, _]) hc dX2_whyNot_87 rfl q1322 mw_X2_whyNotLoad (rc_o hc cE_MO (tg_m hα)) rfl rfl (m_X2_whyNotLoad hα h7 h8 (by omega) (by omega)) ⟨Nat.le_of_ble_eq_true rfl, Nat.le_of_ble_eq_true rfl⟩ (Nat.le_of_ble_eq_true rfl) (Nat.le_of_ble_eq_true rfl) (Nat.le_of_ble_eq_true rfl) (goI fun r87 G87 h87 => ?_)
    obtain ⟨rfl, rfl⟩ := h87
    exact gw_iret hc dX2_whyNot_90 ⟨_, rfl, ⟨by unfold wyF; rw [if_neg (by omega), if_pos w13], rfl⟩⟩
  · refine gw_lookup (t := 64) hc dX2_whyNot_13 (by omega) (by decide) (by rw [w13] <;> rfl) (by decide) ?_
    refine gw_aload_n (q := 65) hc dX2_whyNot_64 rfl rfl xg_0 ?_
    refine gw_iload_n (q := 66) hc dX2_whyNot_65 rfl rfl xg_2 ?_
    refine gw_if_ge  (q := 69) (t := 73) hc dX2_whyNot_66 rfl (by decide) (by omega) (fun c66 => ?_) (fun c66 => ?_)
    · skip
      refine gw_iload_n (q := 74) hc dX2_whyNot_73 rfl rfl xg_2 ?_
      refine gw_callV (q := 77) (bc' := 0) (bs' := 0) (As := [_]) hc dX2_whyNot_74 rfl q1301 mw_X2_whyNotMeter (rc_o hc cE_MO (tg_m hα)) rfl rfl (m_X2_whyNotMeter hα h7 (by omega)) ⟨Nat.le_of_ble_eq_true rfl, Nat.le_of_ble_eq_true rfl⟩ (Nat.le_of_ble_eq_true rfl) (Nat.le_of_ble_eq_true rfl) (Nat.le_of_ble_eq_true rfl) (goI fun r74 G74 h74 => ?_)
      obtain ⟨rfl, rfl⟩ := h74
      exact gw_iret hc dX2_whyNot_77 ⟨_, rfl, ⟨by unfold wyF; rw [if_pos w13]; rw [if_neg (by omega)], rfl⟩⟩
    · skip
      refine gw_iconst (q := 70) hc dX2_whyNot_69 rfl ?_
      refine gw_goto (q := 74) hc dX2_whyNot_70 (by decide) ?_
      refine gw_callV (q := 77) (bc' := 0) (bs' := 0) (As := [_]) hc dX2_whyNot_74 rfl q1301 mw_X2_whyNotMeter (rc_o hc cE_MO (tg_m hα)) rfl rfl (m_X2_whyNotMeter hα h7 (by omega)) ⟨Nat.le_of_ble_eq_true rfl, Nat.le_of_ble_eq_true rfl⟩ (Nat.le_of_ble_eq_true rfl) (Nat.le_of_ble_eq_true rfl) (Nat.le_of_ble_eq_true rfl) (goI fun r74 G74 h74 => ?_)
      obtain ⟨rfl, rfl⟩ := h74
      exact gw_iret hc dX2_whyNot_77 ⟨_, rfl, ⟨by unfold wyF; rw [if_pos w13]; rw [if_pos (by omega)], rfl⟩⟩
  · refine gw_lookup (t := 91) hc dX2_whyNot_13 (by omega) (by decide) (by rw [w13] <;> rfl) (by decide) ?_
    refine gw_aload_n (q := 92) hc dX2_whyNot_91 rfl rfl xg_0 ?_
    refine gw_aload_n (q := 93) hc dX2_whyNot_92 rfl rfl xg_0 ?_
    refine gw_iload_n (q := 94) hc dX2_whyNot_93 rfl rfl xg_1 ?_
    refine gw_iconst (q := 95) hc dX2_whyNot_94 rfl ?_
    refine gw_iadd (q := 96) hc dX2_whyNot_95 rfl ?_
    refine gw_callV (q := 99) (bc' := 0) (bs' := 0) (As := [_]) hc dX2_whyNot_96 rfl q1516 mw_X2_numberAt (rc_o hc cE_MO (tg_m hα)) rfl rfl (m_X2_numberAt hα hp (by omega)) ⟨Nat.le_of_ble_eq_true rfl, Nat.le_of_ble_eq_true rfl⟩ (Nat.le_of_ble_eq_true rfl) (Nat.le_of_ble_eq_true rfl) (Nat.le_of_ble_eq_true rfl) (goI fun r96 G96 h96 => ?_)
    obtain ⟨rfl, rfl⟩ := h96
    refine gw_callV (q := 102) (bc' := 0) (bs' := 0) (As := [_]) hc dX2_whyNot_99 rfl q1334 mw_X2_isLoad (rc_o hc cE_MO (tg_m hα)) rfl rfl (m_X2_isLoad hα (by omega) (by omega)) ⟨Nat.le_of_ble_eq_true rfl, Nat.le_of_ble_eq_true rfl⟩ (Nat.le_of_ble_eq_true rfl) (Nat.le_of_ble_eq_true rfl) (Nat.le_of_ble_eq_true rfl) (goI fun r99 G99 h99 => ?_)
    obtain ⟨b99, rfl⟩ := h99
    refine gw_if_eq  (q := 105) (t := 109) hc dX2_whyNot_102 rfl (by decide) (by omega) (fun c102 => ?_) (fun c102 => ?_)
    · skip
      refine gw_iconst (q := 110) hc dX2_whyNot_109 rfl ?_
      exact gw_iret hc dX2_whyNot_110 ⟨_, rfl, ⟨by unfold wyF; rw [if_neg (by omega), if_neg (by omega), if_pos w13]; unfold wnO; (split <;> omega), rfl⟩⟩
    · skip
      refine gw_iconst (q := 106) hc dX2_whyNot_105 rfl ?_
      refine gw_goto (q := 110) hc dX2_whyNot_106 (by decide) ?_
      exact gw_iret hc dX2_whyNot_110 ⟨_, rfl, ⟨by unfold wyF; rw [if_neg (by omega), if_neg (by omega), if_pos w13]; unfold wnO; (split <;> omega), rfl⟩⟩
  · refine gw_lookup (t := 111) hc dX2_whyNot_13 (by omega) (by decide) (by rw [w13] <;> rfl) (by decide) ?_
    refine gw_aload_n (q := 112) hc dX2_whyNot_111 rfl rfl xg_0 ?_
    refine gw_aload_n (q := 113) hc dX2_whyNot_112 rfl rfl xg_0 ?_
    refine gw_iload_n (q := 114) hc dX2_whyNot_113 rfl rfl xg_1 ?_
    refine gw_iconst (q := 115) hc dX2_whyNot_114 rfl ?_
    refine gw_iadd (q := 116) hc dX2_whyNot_115 rfl ?_
    refine gw_callV (q := 119) (bc' := 0) (bs' := 0) (As := [_]) hc dX2_whyNot_116 rfl q1516 mw_X2_numberAt (rc_o hc cE_MO (tg_m hα)) rfl rfl (m_X2_numberAt hα hp (by omega)) ⟨Nat.le_of_ble_eq_true rfl, Nat.le_of_ble_eq_true rfl⟩ (Nat.le_of_ble_eq_true rfl) (Nat.le_of_ble_eq_true rfl) (Nat.le_of_ble_eq_true rfl) (goI fun r116 G116 h116 => ?_)
    obtain ⟨rfl, rfl⟩ := h116
    refine gw_callV (q := 122) (bc' := 0) (bs' := 0) (As := [_]) hc dX2_whyNot_119 rfl q1370 mw_X2_whyNotPass (rc_o hc cE_MO (tg_m hα)) rfl rfl (m_X2_whyNotPass hα (by omega) h6) ⟨Nat.le_of_ble_eq_true rfl, Nat.le_of_ble_eq_true rfl⟩ (Nat.le_of_ble_eq_true rfl) (Nat.le_of_ble_eq_true rfl) (Nat.le_of_ble_eq_true rfl) (goI fun r119 G119 h119 => ?_)
    obtain ⟨rfl, rfl⟩ := h119
    exact gw_iret hc dX2_whyNot_122 ⟨_, rfl, ⟨by unfold wyF; rw [if_neg (by omega), if_neg (by omega), if_neg (by omega), if_pos w13], rfl⟩⟩
  · refine gw_lookup (off := 116) (t := 129) hc dX2_whyNot_13 (by omega) (by decide) (by simp only [Op.lookupswitch.offset_cons]; (repeat rw [if_neg (by omega)]); first | done | rfl) (by decide) ?_
    refine gw_aload_n (q := 130) hc dX2_whyNot_129 rfl rfl xg_0 ?_
    refine gw_iload_n (q := 131) hc dX2_whyNot_130 rfl rfl xg_2 ?_
    refine gw_callV (q := 134) (bc' := 0) (bs' := 0) (As := [_]) hc dX2_whyNot_131 rfl q1305 mw_X2_isMeter (rc_o hc cE_MO (tg_m hα)) rfl rfl (m_X2_isMeter hα (by omega) (by omega)) ⟨Nat.le_of_ble_eq_true rfl, Nat.le_of_ble_eq_true rfl⟩ (Nat.le_of_ble_eq_true rfl) (Nat.le_of_ble_eq_true rfl) (Nat.le_of_ble_eq_true rfl) (goI fun r131 G131 h131 => ?_)
    obtain ⟨b131, rfl⟩ := h131
    refine gw_if_eq  (q := 137) (t := 141) hc dX2_whyNot_134 rfl (by decide) (by omega) (fun c134 => ?_) (fun c134 => ?_)
    · skip
      refine gw_iconst (q := 142) hc dX2_whyNot_141 rfl ?_
      exact gw_iret hc dX2_whyNot_142 ⟨_, rfl, ⟨by unfold wyF; rw [if_neg (by omega), if_neg (by omega), if_neg (by omega), if_neg (by omega), if_neg (by omega)]; unfold wnI; (split <;> omega), rfl⟩⟩
    · skip
      refine gw_iconst (q := 138) hc dX2_whyNot_137 rfl ?_
      refine gw_goto (q := 142) hc dX2_whyNot_138 (by decide) ?_
      exact gw_iret hc dX2_whyNot_142 ⟨_, rfl, ⟨by unfold wyF; rw [if_neg (by omega), if_neg (by omega), if_neg (by omega), if_neg (by omega), if_neg (by omega)]; unfold wnI; (split <;> omega), rfl⟩⟩

theorem mw_X2_does : mV "EnergyDiscsModel" yX2_does cX2_does 3 (some FieldType.int) 1 := ⟨⟨rfl, by decide +kernel, by decide +kernel, by decide +kernel⟩, q1522, qs71, q82, q1523⟩
set_option maxHeartbeats 4000000 in
theorem m_X2_does {l : Launch} {D : va_G} {X : Nat → Nat} {b0 : Nat} {α : Nat → Nat} {S P L V Pd : Int → Int} {kn ln : Int} {G : gM} (hα : aN α) {q : Int} {N : Int} (hW : rowW S N) (hp : padW Pd ln) (hq : 0 ≤ q ∧ q ≤ 80) (hw : wyF Pd ln S q = 0) : gMet l D X b0 yX2_does cX2_does 3 (some FieldType.int) (rmE 6 0 0) [.ref (α 0), .int (iI q)] (tG D α S P kn L V Pd ln G) (pI fun r G' => G' = tG D α (dsF Pd ln S q) P kn L V Pd ln G) := by
  refine gm_start (own := "EnergyDiscsModel") (lv := [some (.ref (α 0)), some (.int (iI q)), none]) (by decide +kernel) rfl (Nat.le_of_ble_eq_true rfl) rfl (fun p_ e_ s_ m_ args_ below_ meth_ c_ hc hnm => ?_)
  have h7 := rw_7 hW
  have h8 := rw_8 hW
  have h6 := rw_6 hW
  have hcr := cd_r hp hq.1
  have d1 := dg_r (Pd := Pd) (ln := ln) (q := q + 1)
  have n1 := nuF_bd (Pd := Pd) (ln := ln) (q := q + 1) (by omega)
  have n3 := nuF_bd (Pd := Pd) (ln := ln) (q := q + 3) (by omega)
  refine gw_aload_n (q := 1) hc dX2_does_0 rfl rfl xg_0 ?_
  refine gw_iload_n (q := 2) hc dX2_does_1 rfl rfl xg_1 ?_
  refine gw_iconst (q := 3) hc dX2_does_2 rfl ?_
  refine gw_iadd (q := 4) hc dX2_does_3 rfl ?_
  refine gw_callV (q := 7) (bc' := 0) (bs' := 0) (As := [_]) hc dX2_does_4 rfl q1499 mw_X2_digit (rc_o hc cE_MO (tg_m hα)) rfl rfl (m_X2_digit hα hp (by omega)) ⟨Nat.le_of_ble_eq_true rfl, Nat.le_of_ble_eq_true rfl⟩ (Nat.le_of_ble_eq_true rfl) (Nat.le_of_ble_eq_true rfl) (Nat.le_of_ble_eq_true rfl) (goI fun r4 G4 h4 => ?_)
  obtain ⟨rfl, rfl⟩ := h4
  refine gw_istore_n (q := 8) hc dX2_does_7 rfl rfl xs_2 (by decide) (n2p xg_1 rfl) ?_
  refine gw_aload_n (q := 9) hc dX2_does_8 rfl rfl xg_0 ?_
  refine gw_iload_n (q := 10) hc dX2_does_9 rfl rfl xg_1 ?_
  refine gw_callV (q := 13) (bc' := 0) (bs' := 0) (As := [_]) hc dX2_does_10 rfl q1495 mw_X2_code (rc_o hc cE_MO (tg_m hα)) rfl rfl (m_X2_code hα hp (by omega)) ⟨Nat.le_of_ble_eq_true rfl, Nat.le_of_ble_eq_true rfl⟩ (Nat.le_of_ble_eq_true rfl) (Nat.le_of_ble_eq_true rfl) (Nat.le_of_ble_eq_true rfl) (goI fun r10 G10 h10 => ?_)
  obtain ⟨rfl, rfl⟩ := h10
  rcases (by omega : cd Pd ln q = 98 ∨ cd Pd ln q = 108 ∨ cd Pd ln q = 109 ∨ cd Pd ln q = 115 ∨ cd Pd ln q = 116 ∨ (cd Pd ln q ≠ 98 ∧ cd Pd ln q ≠ 108 ∧ cd Pd ln q ≠ 109 ∧ cd Pd ln q ≠ 115 ∧ cd Pd ln q ≠ 116)) with w13 | w13 | w13 | w13 | w13 | w13
  · refine gw_lookup (t := 116) hc dX2_does_13 (by omega) (by decide) (by rw [w13] <;> rfl) (by decide) ?_
    unfold wyF at hw
    rw [if_neg (by omega), if_neg (by omega), if_neg (by omega), if_neg (by omega), if_pos w13] at hw
    have hj : 0 ≤ dg Pd ln (q + 1) ∧ dg Pd ln (q + 1) < S 7 := by unfold wnT at hw; (repeat' split at hw) <;> omega
    refine gw_aload_n (q := 117) hc dX2_does_116 rfl rfl xg_0 ?_
    refine gw_get (q := 120) hc dX2_does_117 rfl cE_MO 0 (by decide) q1252 (fun _ h => h) (tg_m hα) xg_0 ?_
    refine gw_iconst (q := 121) hc dX2_does_120 rfl ?_
    refine gw_iload_n (q := 122) hc dX2_does_121 rfl rfl xg_2 ?_
    refine gw_callS (q := 125) (bc' := 0) (bs' := 0) (As := [_, _]) hc dX2_does_122 rfl q1313 mw_X2_at rfl rfl (m_X2_at) ⟨Nat.le_of_ble_eq_true rfl, Nat.le_of_ble_eq_true rfl⟩ (Nat.le_of_ble_eq_true rfl) (Nat.le_of_ble_eq_true rfl) (Nat.le_of_ble_eq_true rfl) (goI fun r122 G122 h122 => ?_)
    obtain ⟨rfl, rfl⟩ := h122
    refine gw_bipush (q := 127) hc dX2_does_125 rfl (by decide) ?_
    refine gw_iadd (q := 128) hc dX2_does_127 rfl ?_
    refine gw_lconst (q := 129) hc dX2_does_128 rfl (v := 1) rfl ?_
    refine gw_last (q := 130) hc dX2_does_129 rfl (tg_s hα) (by omega) (by omega) ?_
    refine gw_G (tu_s hα) ?_
    refine gw_G (show _ = tG D α (taF S (dg Pd ln (q + 1))) P kn L V Pd ln G from rfl) ?_
    refine gw_iload_n (q := 131) hc dX2_does_130 rfl rfl xg_2 ?_
    exact gw_iret hc dX2_does_131 ⟨_, rfl, by unfold dsF; rw [if_neg (by omega), if_neg (by omega), if_neg (by omega), if_neg (by omega), if_pos w13]⟩
  · refine gw_lookup (t := 78) hc dX2_does_13 (by omega) (by decide) (by rw [w13] <;> rfl) (by decide) ?_
    unfold wyF at hw
    rw [if_neg (by omega), if_pos w13] at hw
    have h812 : S 8 < 12 := by unfold wnL at hw; (repeat' split at hw) <;> omega
    refine gw_aload_n (q := 79) hc dX2_does_78 rfl rfl xg_0 ?_
    refine gw_iload_n (q := 80) hc dX2_does_79 rfl rfl xg_2 ?_
    refine gw_aload_n (q := 81) hc dX2_does_80 rfl rfl xg_0 ?_
    refine gw_iload_n (q := 82) hc dX2_does_81 rfl rfl xg_1 ?_
    refine gw_iconst (q := 83) hc dX2_does_82 rfl ?_
    refine gw_iadd (q := 84) hc dX2_does_83 rfl ?_
    refine gw_callV (q := 87) (bc' := 0) (bs' := 0) (As := [_]) hc dX2_does_84 rfl q1516 mw_X2_numberAt (rc_o hc cE_MO (tg_m hα)) rfl rfl (m_X2_numberAt hα hp (by omega)) ⟨Nat.le_of_ble_eq_true rfl, Nat.le_of_ble_eq_true rfl⟩ (Nat.le_of_ble_eq_true rfl) (Nat.le_of_ble_eq_true rfl) (Nat.le_of_ble_eq_true rfl) (goI fun r84 G84 h84 => ?_)
    obtain ⟨rfl, rfl⟩ := h84
    refine gw_callV (q := 90) (bc' := 0) (bs' := 0) (As := [_, _]) hc dX2_does_87 rfl q1326 mw_X2_loads (rc_o hc cE_MO (tg_m hα)) rfl rfl (m_X2_loads hα ⟨h8.1, h812⟩ (by omega) (by omega)) ⟨Nat.le_of_ble_eq_true rfl, Nat.le_of_ble_eq_true rfl⟩ (Nat.le_of_ble_eq_true rfl) (Nat.le_of_ble_eq_true rfl) (Nat.le_of_ble_eq_true rfl) (goI fun r87 G87 h87 => ?_)
    obtain ⟨rfl, rfl⟩ := h87
    exact gw_iret hc dX2_does_90 ⟨_, rfl, by unfold dsF; rw [if_neg (by omega), if_pos w13]⟩
  · refine gw_lookup (t := 64) hc dX2_does_13 (by omega) (by decide) (by rw [w13] <;> rfl) (by decide) ?_
    unfold wyF at hw
    rw [if_pos w13] at hw
    refine gw_aload_n (q := 65) hc dX2_does_64 rfl rfl xg_0 ?_
    refine gw_iload_n (q := 66) hc dX2_does_65 rfl rfl xg_2 ?_
    refine gw_if_ge  (q := 69) (t := 73) hc dX2_does_66 rfl (by decide) (by omega) (fun c66 => ?_) (fun c66 => ?_)
    · skip
      rw [if_neg (by omega)] at hw
      refine gw_iload_n (q := 74) hc dX2_does_73 rfl rfl xg_2 ?_
      refine gw_callV (q := 77) (bc' := 0) (bs' := 0) (As := [_]) hc dX2_does_74 rfl q1309 mw_X2_comes (rc_o hc cE_MO (tg_m hα)) rfl rfl (m_X2_comes hα ⟨h7.1, by unfold wnM at hw; (repeat' split at hw) <;> omega⟩ (by omega)) ⟨Nat.le_of_ble_eq_true rfl, Nat.le_of_ble_eq_true rfl⟩ (Nat.le_of_ble_eq_true rfl) (Nat.le_of_ble_eq_true rfl) (Nat.le_of_ble_eq_true rfl) (goI fun r74 G74 h74 => ?_)
      obtain ⟨rfl, rfl⟩ := h74
      exact gw_iret hc dX2_does_77 ⟨_, rfl, by unfold dsF; rw [if_pos w13, if_neg (by omega)]⟩
    · skip
      rw [if_pos (by omega)] at hw
      refine gw_iconst (q := 70) hc dX2_does_69 rfl ?_
      refine gw_goto (q := 74) hc dX2_does_70 (by decide) ?_
      refine gw_callV (q := 77) (bc' := 0) (bs' := 0) (As := [_]) hc dX2_does_74 rfl q1309 mw_X2_comes (rc_o hc cE_MO (tg_m hα)) rfl rfl (m_X2_comes hα ⟨h7.1, by unfold wnM at hw; (repeat' split at hw) <;> omega⟩ (by omega)) ⟨Nat.le_of_ble_eq_true rfl, Nat.le_of_ble_eq_true rfl⟩ (Nat.le_of_ble_eq_true rfl) (Nat.le_of_ble_eq_true rfl) (Nat.le_of_ble_eq_true rfl) (goI fun r74 G74 h74 => ?_)
      obtain ⟨rfl, rfl⟩ := h74
      exact gw_iret hc dX2_does_77 ⟨_, rfl, by unfold dsF; rw [if_pos w13, if_pos (by omega)]⟩
  · refine gw_lookup (t := 91) hc dX2_does_13 (by omega) (by decide) (by rw [w13] <;> rfl) (by decide) ?_
    unfold wyF at hw
    rw [if_neg (by omega), if_neg (by omega), if_pos w13] at hw
    have hj : 0 ≤ nuF Pd ln (q + 1) ∧ nuF Pd ln (q + 1) < S 8 := by unfold wnO at hw; split at hw <;> omega
    refine gw_aload_n (q := 92) hc dX2_does_91 rfl rfl xg_0 ?_
    refine gw_aload_n (q := 93) hc dX2_does_92 rfl rfl xg_0 ?_
    refine gw_iload_n (q := 94) hc dX2_does_93 rfl rfl xg_1 ?_
    refine gw_iconst (q := 95) hc dX2_does_94 rfl ?_
    refine gw_iadd (q := 96) hc dX2_does_95 rfl ?_
    refine gw_callV (q := 99) (bc' := 0) (bs' := 0) (As := [_]) hc dX2_does_96 rfl q1516 mw_X2_numberAt (rc_o hc cE_MO (tg_m hα)) rfl rfl (m_X2_numberAt hα hp (by omega)) ⟨Nat.le_of_ble_eq_true rfl, Nat.le_of_ble_eq_true rfl⟩ (Nat.le_of_ble_eq_true rfl) (Nat.le_of_ble_eq_true rfl) (Nat.le_of_ble_eq_true rfl) (goI fun r96 G96 h96 => ?_)
    obtain ⟨rfl, rfl⟩ := h96
    refine gw_callV (q := 102) (bc' := 0) (bs' := 0) (As := [_]) hc dX2_does_99 rfl q1338 mw_X2_turns (rc_o hc cE_MO (tg_m hα)) rfl rfl (m_X2_turns hα (by omega)) ⟨Nat.le_of_ble_eq_true rfl, Nat.le_of_ble_eq_true rfl⟩ (Nat.le_of_ble_eq_true rfl) (Nat.le_of_ble_eq_true rfl) (Nat.le_of_ble_eq_true rfl) (goI fun r99 G99 h99 => ?_)
    obtain ⟨rfl, rfl⟩ := h99
    exact gw_iret hc dX2_does_102 ⟨_, rfl, by unfold dsF; rw [if_neg (by omega), if_neg (by omega), if_pos w13]⟩
  · refine gw_lookup (t := 103) hc dX2_does_13 (by omega) (by decide) (by rw [w13] <;> rfl) (by decide) ?_
    refine gw_aload_n (q := 104) hc dX2_does_103 rfl rfl xg_0 ?_
    refine gw_iconst (q := 105) hc dX2_does_104 rfl ?_
    refine gw_aload_n (q := 106) hc dX2_does_105 rfl rfl xg_0 ?_
    refine gw_iload_n (q := 107) hc dX2_does_106 rfl rfl xg_1 ?_
    refine gw_iconst (q := 108) hc dX2_does_107 rfl ?_
    refine gw_iadd (q := 109) hc dX2_does_108 rfl ?_
    refine gw_callV (q := 112) (bc' := 0) (bs' := 0) (As := [_]) hc dX2_does_109 rfl q1516 mw_X2_numberAt (rc_o hc cE_MO (tg_m hα)) rfl rfl (m_X2_numberAt hα hp (by omega)) ⟨Nat.le_of_ble_eq_true rfl, Nat.le_of_ble_eq_true rfl⟩ (Nat.le_of_ble_eq_true rfl) (Nat.le_of_ble_eq_true rfl) (Nat.le_of_ble_eq_true rfl) (goI fun r109 G109 h109 => ?_)
    obtain ⟨rfl, rfl⟩ := h109
    refine gw_callV (q := 115) (bc' := 0) (bs' := 0) (As := [_, _]) hc dX2_does_112 rfl q1375 mw_X2_passes (rc_o hc cE_MO (tg_m hα)) rfl rfl (m_X2_passes hα hW.1 (show S 6 ≤ _ by omega) (by omega)) ⟨Nat.le_of_ble_eq_true rfl, Nat.le_of_ble_eq_true rfl⟩ (Nat.le_of_ble_eq_true rfl) (Nat.le_of_ble_eq_true rfl) (Nat.le_of_ble_eq_true rfl) (goI fun r112 G112 h112 => ?_)
    obtain ⟨rfl, rfl⟩ := h112
    exact gw_iret hc dX2_does_115 ⟨_, rfl, by unfold dsF; rw [if_neg (by omega), if_neg (by omega), if_neg (by omega), if_pos w13]⟩
  · refine gw_lookup (off := 119) (t := 132) hc dX2_does_13 (by omega) (by decide) (by simp only [Op.lookupswitch.offset_cons]; (repeat rw [if_neg (by omega)]); first | done | rfl) (by decide) ?_
    unfold wyF at hw
    rw [if_neg (by omega), if_neg (by omega), if_neg (by omega), if_neg (by omega), if_neg (by omega)] at hw
    have hj : 0 ≤ dg Pd ln (q + 1) ∧ dg Pd ln (q + 1) < S 7 := by unfold wnI at hw; split at hw <;> omega
    refine gw_aload_n (q := 133) hc dX2_does_132 rfl rfl xg_0 ?_
    refine gw_iload_n (q := 134) hc dX2_does_133 rfl rfl xg_2 ?_
    refine gw_callV (q := 137) (bc' := 0) (bs' := 0) (As := [_]) hc dX2_does_134 rfl q1358 mw_X2_visits (rc_o hc cE_MO (tg_m hα)) rfl rfl (m_X2_visits hα (by omega) (by have := biF_bd hW _ hj.1 hj.2; omega) (by simpa only [Int.zero_add] using (rw_m hW _ hj.1 hj.2).2.2.2.2.1)) ⟨Nat.le_of_ble_eq_true rfl, Nat.le_of_ble_eq_true rfl⟩ (Nat.le_of_ble_eq_true rfl) (Nat.le_of_ble_eq_true rfl) (Nat.le_of_ble_eq_true rfl) (goI fun r134 G134 h134 => ?_)
    obtain ⟨rfl, rfl⟩ := h134
    exact gw_iret hc dX2_does_137 ⟨_, rfl, by unfold dsF; rw [if_neg (by omega), if_neg (by omega), if_neg (by omega), if_neg (by omega), if_neg (by omega)]⟩

theorem mw_X2_carryOut : mV "EnergyDiscsModel" yX2_carryOut cX2_carryOut 4 (some FieldType.int) 0 := ⟨⟨rfl, by decide +kernel, by decide +kernel, by decide +kernel⟩, q1508, q1509, q82, q1510⟩
set_option maxHeartbeats 4000000 in
theorem m_X2_carryOut {l : Launch} {D : va_G} {X : Nat → Nat} {b0 : Nat} {α : Nat → Nat} {S P L V Pd : Int → Int} {kn ln : Int} {G : gM} (hα : aN α)  {N : Int} (hW : rowW S N) (hp : padW Pd ln) (hkn : 0 ≤ kn ∧ kn ≤ 6) : gMet l D X b0 yX2_carryOut cX2_carryOut 4 (some FieldType.int) (rmE 7 0 0) [.ref (α 0)] (tG D α S P kn L V Pd ln G) (pI fun r G' => (faF Pd ln 80 0 ≠ -6 ∧ r = -3 ∧ G' = tG D α S P kn L V Pd ln G) ∨ (faF Pd ln 80 0 = -6 ∧ ∃ (P' : Int → Int) (kn' : Int), remR S P kn P' kn' ∧ r = (caF Pd ln 41 S 0).2 ∧ G' = tG D α (caF Pd ln 41 S 0).1 P' kn' L V Pd 0 G)) := by
  refine gm_start (own := "EnergyDiscsModel") (lv := [some (.ref (α 0)), none, none, none]) (by decide +kernel) rfl (Nat.le_of_ble_eq_true rfl) rfl (fun p_ e_ s_ m_ args_ below_ meth_ c_ hc hnm => ?_)
  have h7 := rw_7 hW
  have h8 := rw_8 hW
  have h6 := rw_6 hW
  have hl := hp.1
  refine gw_aload_n (q := 1) hc dX2_carryOut_0 rfl rfl xg_0 ?_
  refine gw_callV (q := 4) (bc' := 0) (bs' := 0) (As := []) hc dX2_carryOut_1 rfl q1511 mw_X2_fault (rc_o hc cE_MO (tg_m hα)) rfl rfl (m_X2_fault hα hp) ⟨Nat.le_of_ble_eq_true rfl, Nat.le_of_ble_eq_true rfl⟩ (Nat.le_of_ble_eq_true rfl) (Nat.le_of_ble_eq_true rfl) (Nat.le_of_ble_eq_true rfl) (goI fun r1 G1 h1 => ?_)
  obtain ⟨rfl, rfl⟩ := h1
  have hfr := faF_r (Pd := Pd) (ln := ln) hp 80 0 (by omega) (by omega)
  refine gw_bipush (q := 6) hc dX2_carryOut_4 rfl (by decide) ?_
  refine gw_icmp_eq  (q := 9) (t := 12) hc dX2_carryOut_6 rfl (by decide) (by omega) (by omega) (fun c6 => ?_) (fun c6 => ?_)
  · have hf : faF Pd ln 80 0 = -6 := c6
    refine gw_aload_n (q := 13) hc dX2_carryOut_12 rfl rfl xg_0 ?_
    refine gw_callV (q := 16) (bc' := 0) (bs' := 0) (As := []) hc dX2_carryOut_13 rfl q1289 mw_X2_remembers (rc_o hc cE_MO (tg_m hα)) rfl rfl (m_X2_remembers hα hkn) ⟨Nat.le_of_ble_eq_true rfl, Nat.le_of_ble_eq_true rfl⟩ (Nat.le_of_ble_eq_true rfl) (Nat.le_of_ble_eq_true rfl) (Nat.le_of_ble_eq_true rfl) (goV fun G13 h13 => ?_)
    obtain ⟨P1, kn1, rfl, hrem⟩ := h13
    refine gw_iconst (q := 17) hc dX2_carryOut_16 rfl ?_
    refine gw_istore_n (q := 18) hc dX2_carryOut_17 rfl rfl xs_1 (by decide) (n2p xg_0 rfl) ?_
    refine gw_iconst (q := 19) hc dX2_carryOut_18 rfl ?_
    refine gw_istore_n (q := 20) hc dX2_carryOut_19 rfl rfl xs_2 (by decide) (n2p xg_1 rfl) ?_
    refine gw_loop (σ := Nat × (Int → Int) × Int) (fun x => (0 ≤ x.2.2 ∧ x.2.2 ≤ ln + 1 ∧ 2 * (x.1 : Int) ≤ x.2.2) ∧ rowW x.2.1 (N + x.1) ∧ (x.2.2 < ln → faF Pd ln (80 - x.1) x.2.2 = -6) ∧ (caF Pd ln 41 S 0).1 = (caF Pd ln (41 - x.1) x.2.1 x.2.2).1 ∧ (caF Pd ln 41 S 0).2 = (caF Pd ln (41 - x.1) x.2.1 x.2.2).2 + x.1) (fun x => (ln + 1 - x.2.2).toNat) (fun x => tG D α x.2.1 P1 kn1 L V Pd ln G) (fun x => [some (.ref (α 0)), some (.int (iI (x.1 : Int))), some (.int (iI x.2.2)), none]) ?_ (0, S, 0) ⟨⟨by dsimp only; omega, by dsimp only; omega, by dsimp only; omega⟩, by rw [show N + ((0 : Nat) : Int) = N by omega]; exact hW, fun _ => hf, rfl, (Int.add_zero _).symm⟩
    rintro ⟨n, S1, q⟩ hI20 ih20
    try dsimp only at hI20 ⊢
    refine gw_iload_n (q := 21) hc dX2_carryOut_20 rfl rfl xg_2 ?_
    refine gw_aload_n (q := 22) hc dX2_carryOut_21 rfl rfl xg_0 ?_
    refine gw_get (q := 25) hc dX2_carryOut_22 rfl cE_MO 6 (by decide) q1258 (fun _ h => h) (tg_m hα) xg_6 ?_
    refine gw_icmp_ge  (q := 28) (t := 56) hc dX2_carryOut_25 rfl (by decide) (by omega) (by omega) (fun c25 => ?_) (fun c25 => ?_)
    · have hca : caF Pd ln (41 - n) S1 q = (S1, 0) := by
        rw [show 41 - n = (40 - n) + 1 by omega]
        rw [caF_e, if_neg (by omega)]
      refine gw_aload_n (q := 57) hc dX2_carryOut_56 rfl rfl xg_0 ?_
      refine gw_iconst (q := 58) hc dX2_carryOut_57 rfl ?_
      refine gw_put (q := 61) hc dX2_carryOut_58 rfl cE_MO 6 (by decide) q1258 (fun _ h => h) rfl (tg_m hα) ⟨rfl, rfl⟩ xs_6 (Nat.le_of_ble_eq_true rfl) ?_
      refine gw_G (tu_m hα) ?_
      refine gw_iload_n (q := 62) hc dX2_carryOut_61 rfl rfl xg_1 ?_
      exact gw_iret hc dX2_carryOut_62 ⟨_, rfl, Or.inr ⟨hf, P1, kn1, hrem, by rw [hI20.2.2.2.2, hca]; omega, by rw [hI20.2.2.2.1, hca]⟩⟩
    · have hl80 := hp.1
      have hwr := wyF_r (Pd := Pd) (ln := ln) (S := S1) (q := q)
      refine gw_aload_n (q := 29) hc dX2_carryOut_28 rfl rfl xg_0 ?_
      refine gw_iload_n (q := 30) hc dX2_carryOut_29 rfl rfl xg_2 ?_
      refine gw_callV (q := 33) (bc' := 0) (bs' := 0) (As := [_]) hc dX2_carryOut_30 rfl q1512 mw_X2_whyNot (rc_o hc cE_MO (tg_m hα)) rfl rfl (m_X2_whyNot hα hI20.2.1 hp (by omega)) ⟨Nat.le_of_ble_eq_true rfl, Nat.le_of_ble_eq_true rfl⟩ (Nat.le_of_ble_eq_true rfl) (Nat.le_of_ble_eq_true rfl) (Nat.le_of_ble_eq_true rfl) (goI fun r30 G30 h30 => ?_)
      obtain ⟨rfl, rfl⟩ := h30
      refine gw_if_ne  (q := 36) (t := 56) hc dX2_carryOut_33 rfl (by decide) (by omega) (fun c33 => ?_) (fun c33 => ?_)
      · have hca : caF Pd ln (41 - n) S1 q = (S1, 0) := by
          rw [show 41 - n = (40 - n) + 1 by omega]
          rw [caF_e, if_neg (by omega)]
        refine gw_aload_n (q := 57) hc dX2_carryOut_56 rfl rfl xg_0 ?_
        refine gw_iconst (q := 58) hc dX2_carryOut_57 rfl ?_
        refine gw_put (q := 61) hc dX2_carryOut_58 rfl cE_MO 6 (by decide) q1258 (fun _ h => h) rfl (tg_m hα) ⟨rfl, rfl⟩ xs_6 (Nat.le_of_ble_eq_true rfl) ?_
        refine gw_G (tu_m hα) ?_
        refine gw_iload_n (q := 62) hc dX2_carryOut_61 rfl rfl xg_1 ?_
        exact gw_iret hc dX2_carryOut_62 ⟨_, rfl, Or.inr ⟨hf, P1, kn1, hrem, by rw [hI20.2.2.2.2, hca]; omega, by rw [hI20.2.2.2.1, hca]⟩⟩
      · have hca : caF Pd ln (41 - n) S1 q = ((caF Pd ln (41 - (n + 1)) (dsF Pd ln S1 q) (oeF Pd ln q + 1)).1, (caF Pd ln (41 - (n + 1)) (dsF Pd ln S1 q) (oeF Pd ln q + 1)).2 + 1) := by
          rw [show 41 - n = (41 - (n + 1)) + 1 by omega]
          rw [caF_e, if_pos (by omega)]
        have hfs := fa_step (k := 79 - n) (by rw [show 79 - n + 1 = 80 - n by omega]; exact hI20.2.2.1 c25) hI20.1.1
        have hor := oeF_r (Pd := Pd) (ln := ln) (q := q) hI20.1.1
        have hco := cd_o (Pd := Pd) (ln := ln) (q := oeF Pd ln q) (c := 59)
        refine gw_aload_n (q := 37) hc dX2_carryOut_36 rfl rfl xg_0 ?_
        refine gw_iload_n (q := 38) hc dX2_carryOut_37 rfl rfl xg_2 ?_
        refine gw_callV (q := 41) (bc' := 0) (bs' := 0) (As := [_]) hc dX2_carryOut_38 rfl q1520 mw_X2_does (rc_o hc cE_MO (tg_m hα)) rfl rfl (m_X2_does hα hI20.2.1 hp (by omega) c33) ⟨Nat.le_of_ble_eq_true rfl, Nat.le_of_ble_eq_true rfl⟩ (Nat.le_of_ble_eq_true rfl) (Nat.le_of_ble_eq_true rfl) (Nat.le_of_ble_eq_true rfl) (goI fun r38 G38 h38 => ?_)
        obtain rfl := h38
        have hor0 := trivial
        refine gw_istore_n (q := 42) hc dX2_carryOut_41 rfl rfl xs_3 (by decide) (n2p xg_2 rfl) ?_
        refine gw_iinc (q := 45) hc dX2_carryOut_42 rfl xg_1 xs_1 (by decide) (n2p xg_0 rfl) ?_
        refine gw_aload_n (q := 46) hc dX2_carryOut_45 rfl rfl xg_0 ?_
        refine gw_iload_n (q := 47) hc dX2_carryOut_46 rfl rfl xg_2 ?_
        refine gw_callV (q := 50) (bc' := 0) (bs' := 0) (As := [_]) hc dX2_carryOut_47 rfl q1491 mw_X2_orderEnd (rc_o hc cE_MO (tg_m hα)) rfl rfl (m_X2_orderEnd hα hp (by omega)) ⟨Nat.le_of_ble_eq_true rfl, Nat.le_of_ble_eq_true rfl⟩ (Nat.le_of_ble_eq_true rfl) (Nat.le_of_ble_eq_true rfl) (Nat.le_of_ble_eq_true rfl) (goI fun r47 G47 h47 => ?_)
        obtain ⟨rfl, rfl⟩ := h47
        refine gw_iconst (q := 51) hc dX2_carryOut_50 rfl ?_
        refine gw_iadd (q := 52) hc dX2_carryOut_51 rfl ?_
        refine gw_istore_n (q := 53) hc dX2_carryOut_52 rfl rfl xs_2 (by decide) (n2p xg_1 rfl) ?_
        refine gw_goto (q := 20) hc dX2_carryOut_53 (by decide) ?_
        refine gw_drop (i := 3) xs_3 ?_
        exact ih20 (n + 1, dsF Pd ln S1 q, oeF Pd ln q + 1) (by dsimp only; exact ⟨⟨by omega, by omega, by omega⟩, by rw [show N + ((n + 1 : Nat) : Int) = N + n + 1 by omega]; exact rowW_ds hI20.2.1 hI20.1.1 c33, fun z => by rw [show 80 - (n + 1) = 79 - n by omega]; exact (hfs.2.resolve_left (by omega)).2, by rw [hI20.2.2.2.1, hca], by rw [hI20.2.2.2.2, hca]; push_cast; omega⟩) (by dsimp only; omega)
  · skip
    refine gw_bipush (q := 11) hc dX2_carryOut_9 rfl (by decide) ?_
    exact gw_iret hc dX2_carryOut_11 ⟨_, rfl, Or.inl ⟨c6, rfl, rfl⟩⟩

theorem mw_X2_undo : mV "EnergyDiscsModel" yX2_undo cX2_undo 2 (some FieldType.int) 0 := ⟨⟨rfl, by decide +kernel, by decide +kernel, by decide +kernel⟩, q1525, q1526, q82, q1527⟩
set_option maxHeartbeats 4000000 in
theorem m_X2_undo {l : Launch} {D : va_G} {X : Nat → Nat} {b0 : Nat} {α : Nat → Nat} {S P L V Pd : Int → Int} {kn ln : Int} {G : gM} (hα : aN α)  (hkn : 0 ≤ kn ∧ kn ≤ 6) : gMet l D X b0 yX2_undo cX2_undo 2 (some FieldType.int) (rmE 0 0 0) [.ref (α 0)] (tG D α S P kn L V Pd ln G) (pI fun r G' => (kn = 0 ∧ r = -5 ∧ G' = tG D α S P kn L V Pd ln G) ∨ (kn ≠ 0 ∧ r = kn - 1 ∧ ∃ S' : Int → Int, (∀ i, 0 ≤ i → i < 138 → S' i = P (138 * (kn - 1) + i)) ∧ G' = tG D α S' P (kn - 1) L V Pd ln G)) := by
  refine gm_start (own := "EnergyDiscsModel") (lv := [some (.ref (α 0)), none]) (by decide +kernel) rfl (Nat.le_of_ble_eq_true rfl) rfl (fun p_ e_ s_ m_ args_ below_ meth_ c_ hc hnm => ?_)
  refine gw_aload_n (q := 1) hc dX2_undo_0 rfl rfl xg_0 ?_
  refine gw_get (q := 4) hc dX2_undo_1 rfl cE_MO 2 (by decide) q1254 (fun _ h => h) (tg_m hα) xg_2 ?_
  refine gw_if_ne  (q := 7) (t := 10) hc dX2_undo_4 rfl (by decide) (by omega) (fun c4 => ?_) (fun c4 => ?_)
  · skip
    refine gw_aload_n (q := 11) hc dX2_undo_10 rfl rfl xg_0 ?_
    refine gw_dup (q := 12) hc dX2_undo_11 rfl rfl ?_
    refine gw_get (q := 15) hc dX2_undo_12 rfl cE_MO 2 (by decide) q1254 (fun _ h => h) (tg_m hα) xg_2 ?_
    refine gw_iconst (q := 16) hc dX2_undo_15 rfl ?_
    refine gw_isub (q := 17) hc dX2_undo_16 rfl ?_
    refine gw_put (q := 20) hc dX2_undo_17 rfl cE_MO 2 (by decide) q1254 (fun _ h => h) rfl (tg_m hα) ⟨rfl, rfl⟩ xs_2 (Nat.le_of_ble_eq_true rfl) ?_
    refine gw_G (tu_m hα) ?_
    refine gw_iconst (q := 21) hc dX2_undo_20 rfl ?_
    refine gw_istore_n (q := 22) hc dX2_undo_21 rfl rfl xs_1 (by decide) (n2p xg_0 rfl) ?_
    refine gw_loop (σ := Int × (Int → Int)) (fun x => (0 ≤ x.1 ∧ x.1 ≤ 138) ∧ ∀ j, 0 ≤ j → j < x.1 → x.2 j = P (138 * (kn - 1) + j)) (fun x => (138 - x.1).toNat) (fun x => tG D α x.2 P (kn - 1) L V Pd ln G) (fun x => [some (.ref (α 0)), some (.int (iI x.1))]) ?_ (0, S) ⟨⟨by omega, by omega⟩, fun j h1 h2 => by omega⟩
    rintro ⟨i, S1⟩ hI22 ih22
    try dsimp only at hI22 ⊢
    refine gw_iload_n (q := 23) hc dX2_undo_22 rfl rfl xg_1 ?_
    refine gw_sipush (q := 26) hc dX2_undo_23 rfl (by decide) ?_
    refine gw_icmp_ge  (q := 29) (t := 56) hc dX2_undo_26 rfl (by decide) (by omega) (by omega) (fun c26 => ?_) (fun c26 => ?_)
    · skip
      refine gw_aload_n (q := 57) hc dX2_undo_56 rfl rfl xg_0 ?_
      refine gw_get (q := 60) hc dX2_undo_57 rfl cE_MO 2 (by decide) q1254 (fun _ h => h) (tg_m hα) xg_2 ?_
      exact gw_iret hc dX2_undo_60 ⟨_, rfl, Or.inr ⟨by omega, rfl, S1, fun j a b => hI22.2 j a (by omega), rfl⟩⟩
    · skip
      refine gw_aload_n (q := 30) hc dX2_undo_29 rfl rfl xg_0 ?_
      refine gw_get (q := 33) hc dX2_undo_30 rfl cE_MO 0 (by decide) q1252 (fun _ h => h) (tg_m hα) xg_0 ?_
      refine gw_iload_n (q := 34) hc dX2_undo_33 rfl rfl xg_1 ?_
      refine gw_aload_n (q := 35) hc dX2_undo_34 rfl rfl xg_0 ?_
      refine gw_get (q := 38) hc dX2_undo_35 rfl cE_MO 1 (by decide) q1253 (fun _ h => h) (tg_m hα) xg_1 ?_
      refine gw_sipush (q := 41) hc dX2_undo_38 rfl (by decide) ?_
      refine gw_aload_n (q := 42) hc dX2_undo_41 rfl rfl xg_0 ?_
      refine gw_get (q := 45) hc dX2_undo_42 rfl cE_MO 2 (by decide) q1254 (fun _ h => h) (tg_m hα) xg_2 ?_
      refine gw_imul (q := 46) hc dX2_undo_45 rfl ?_
      refine gw_iload_n (q := 47) hc dX2_undo_46 rfl rfl xg_1 ?_
      refine gw_iadd (q := 48) hc dX2_undo_47 rfl ?_
      refine gw_lald (q := 49) hc dX2_undo_48 rfl (tg_p hα) (by omega) (by omega) ?_
      refine gw_last (q := 50) hc dX2_undo_49 rfl (tg_s hα) (by omega) (by omega) ?_
      refine gw_G (tu_s hα) ?_
      refine gw_iinc (q := 53) hc dX2_undo_50 rfl xg_1 xs_1 (by decide) (n2p xg_0 rfl) ?_
      refine gw_goto (q := 22) hc dX2_undo_53 (by decide) ?_
      exact ih22 (i + 1, fu S1 i (P (138 * (kn - 1) + i))) (by dsimp only; exact ⟨⟨by omega, by omega⟩, fun j h1 h2 => by unfold fu; split; (rename_i e; rw [e]); exact hI22.2 j h1 (by omega)⟩) (by dsimp only; omega)
  · skip
    refine gw_bipush (q := 9) hc dX2_undo_7 rfl (by decide) ?_
    exact gw_iret hc dX2_undo_9 ⟨_, rfl, Or.inl ⟨by omega, rfl, rfl⟩⟩

theorem mw_X2_save : mV "EnergyDiscsModel" yX2_save cX2_save 3 (some FieldType.int) 1 := ⟨⟨rfl, by decide +kernel, by decide +kernel, by decide +kernel⟩, q1529, q1530, q82, q1531⟩
set_option maxHeartbeats 4000000 in
theorem m_X2_save {l : Launch} {D : va_G} {X : Nat → Nat} {b0 : Nat} {α : Nat → Nat} {S P L V Pd : Int → Int} {kn ln : Int} {G : gM} (hα : aN α) {i : Int} (h7 : 0 ≤ S 7 ∧ S 7 ≤ 7) (hi : rI i) : gMet l D X b0 yX2_save cX2_save 3 (some FieldType.int) (rmE 1 0 0) [.ref (α 0), .int (iI i)] (tG D α S P kn L V Pd ln G) (pI fun r G' => (¬ (0 ≤ i ∧ i ≤ 1) ∧ r = -2 ∧ G' = tG D α S P kn L V Pd ln G) ∨ ((0 ≤ i ∧ i ≤ 1) ∧ r = S 7 ∧ ∃ L' : Int → Int, (∀ j, 0 ≤ j → j < 138 → L' (138 * i + j) = S j) ∧ (∀ j, (j < 138 * i ∨ 138 * i + 138 ≤ j) → L' j = L j) ∧ G' = tG D α S P kn L' (fu V i 1) Pd ln G)) := by
  refine gm_start (own := "EnergyDiscsModel") (lv := [some (.ref (α 0)), some (.int (iI i)), none]) (by decide +kernel) rfl (Nat.le_of_ble_eq_true rfl) rfl (fun p_ e_ s_ m_ args_ below_ meth_ c_ hc hnm => ?_)
  refine gw_iload_n (q := 1) hc dX2_save_0 rfl rfl xg_1 ?_
  refine gw_iconst (q := 2) hc dX2_save_1 rfl ?_
  refine gw_iconst (q := 3) hc dX2_save_2 rfl ?_
  refine gw_callS (q := 6) (bc' := 0) (bs' := 0) (As := [_, _, _]) hc dX2_save_3 rfl q1280 mw_X2_in rfl rfl (m_X2_in (by omega) (by omega) (by omega)) ⟨Nat.le_of_ble_eq_true rfl, Nat.le_of_ble_eq_true rfl⟩ (Nat.le_of_ble_eq_true rfl) (Nat.le_of_ble_eq_true rfl) (Nat.le_of_ble_eq_true rfl) (goI fun r3 G3 h3 => ?_)
  obtain ⟨b3, rfl⟩ := h3
  refine gw_if_ne  (q := 9) (t := 12) hc dX2_save_6 rfl (by decide) (by omega) (fun c6 => ?_) (fun c6 => ?_)
  · skip
    refine gw_iconst (q := 13) hc dX2_save_12 rfl ?_
    refine gw_istore_n (q := 14) hc dX2_save_13 rfl rfl xs_2 (by decide) (n2p xg_1 rfl) ?_
    refine gw_loop (σ := Int × (Int → Int)) (fun x => (0 ≤ x.1 ∧ x.1 ≤ 138) ∧ (∀ j, 0 ≤ j → j < x.1 → x.2 (138 * i + j) = S j) ∧ ∀ j, (j < 138 * i ∨ 138 * i + 138 ≤ j) → x.2 j = L j) (fun x => (138 - x.1).toNat) (fun x => tG D α S P kn x.2 V Pd ln G) (fun x => [some (.ref (α 0)), some (.int (iI i)), some (.int (iI x.1))]) ?_ (0, L) ⟨⟨by omega, by omega⟩, fun j h1 h2 => by omega, fun j _ => rfl⟩
    rintro ⟨k, L1⟩ hI14 ih14
    try dsimp only at hI14 ⊢
    refine gw_iload_n (q := 15) hc dX2_save_14 rfl rfl xg_2 ?_
    refine gw_sipush (q := 18) hc dX2_save_15 rfl (by decide) ?_
    refine gw_icmp_ge  (q := 21) (t := 45) hc dX2_save_18 rfl (by decide) (by omega) (by omega) (fun c18 => ?_) (fun c18 => ?_)
    · skip
      refine gw_aload_n (q := 46) hc dX2_save_45 rfl rfl xg_0 ?_
      refine gw_get (q := 49) hc dX2_save_46 rfl cE_MO 4 (by decide) q1256 (fun _ h => h) (tg_m hα) xg_4 ?_
      refine gw_iload_n (q := 50) hc dX2_save_49 rfl rfl xg_1 ?_
      refine gw_iconst (q := 51) hc dX2_save_50 rfl ?_
      refine gw_zast (q := 52) hc dX2_save_51 rfl (tg_v hα) (by omega) (by omega) (by omega) ?_
      refine gw_G (tu_v hα) ?_
      refine gw_aload_n (q := 53) hc dX2_save_52 rfl rfl xg_0 ?_
      refine gw_bipush (q := 55) hc dX2_save_53 rfl (by decide) ?_
      refine gw_callV (q := 58) (bc' := 0) (bs' := 0) (As := [_]) hc dX2_save_55 rfl q1293 mw_X2_num (rc_o hc cE_MO (tg_m hα)) rfl rfl (m_X2_num hα (by omega)) ⟨Nat.le_of_ble_eq_true rfl, Nat.le_of_ble_eq_true rfl⟩ (Nat.le_of_ble_eq_true rfl) (Nat.le_of_ble_eq_true rfl) (Nat.le_of_ble_eq_true rfl) (goI fun r55 G55 h55 => ?_)
      obtain ⟨rfl, rfl⟩ := h55
      exact gw_iret hc dX2_save_58 ⟨_, rfl, Or.inr ⟨by omega, rfl, L1, fun j a b => hI14.2.1 j a (by omega), hI14.2.2, rfl⟩⟩
    · skip
      refine gw_aload_n (q := 22) hc dX2_save_21 rfl rfl xg_0 ?_
      refine gw_get (q := 25) hc dX2_save_22 rfl cE_MO 3 (by decide) q1255 (fun _ h => h) (tg_m hα) xg_3 ?_
      refine gw_sipush (q := 28) hc dX2_save_25 rfl (by decide) ?_
      refine gw_iload_n (q := 29) hc dX2_save_28 rfl rfl xg_1 ?_
      refine gw_imul (q := 30) hc dX2_save_29 rfl ?_
      refine gw_iload_n (q := 31) hc dX2_save_30 rfl rfl xg_2 ?_
      refine gw_iadd (q := 32) hc dX2_save_31 rfl ?_
      refine gw_aload_n (q := 33) hc dX2_save_32 rfl rfl xg_0 ?_
      refine gw_get (q := 36) hc dX2_save_33 rfl cE_MO 0 (by decide) q1252 (fun _ h => h) (tg_m hα) xg_0 ?_
      refine gw_iload_n (q := 37) hc dX2_save_36 rfl rfl xg_2 ?_
      refine gw_lald (q := 38) hc dX2_save_37 rfl (tg_s hα) (by omega) (by omega) ?_
      refine gw_last (q := 39) hc dX2_save_38 rfl (tg_l hα) (by omega) (by omega) ?_
      refine gw_G (tu_l hα) ?_
      refine gw_iinc (q := 42) hc dX2_save_39 rfl xg_2 xs_2 (by decide) (n2p xg_1 rfl) ?_
      refine gw_goto (q := 14) hc dX2_save_42 (by decide) ?_
      exact ih14 (k + 1, fu L1 (138 * i + k) (S k)) (by dsimp only; exact ⟨⟨by omega, by omega⟩, fun j h1 h2 => by unfold fu; split; (rename_i e; exact congrArg S (by omega)); exact hI14.2.1 j h1 (by omega), fun j h1 => by rw [fu_n (by omega)]; exact hI14.2.2 j h1⟩) (by dsimp only; omega)
  · skip
    refine gw_bipush (q := 11) hc dX2_save_9 rfl (by decide) ?_
    exact gw_iret hc dX2_save_11 ⟨_, rfl, Or.inl ⟨by omega, rfl, rfl⟩⟩

theorem mw_X2_restore : mV "EnergyDiscsModel" yX2_restore cX2_restore 3 (some FieldType.int) 1 := ⟨⟨rfl, by decide +kernel, by decide +kernel, by decide +kernel⟩, q1533, q1534, q82, q1535⟩
set_option maxHeartbeats 4000000 in
theorem m_X2_restore {l : Launch} {D : va_G} {X : Nat → Nat} {b0 : Nat} {α : Nat → Nat} {S P L V Pd : Int → Int} {kn ln : Int} {G : gM} (hα : aN α) {i : Int} (hi : rI i) (hV : ∀ i, 0 ≤ i → i ≤ 1 → V i = 0 ∨ V i = 1) (hkn : 0 ≤ kn ∧ kn ≤ 6) : gMet l D X b0 yX2_restore cX2_restore 3 (some FieldType.int) (rmE 1 0 0) [.ref (α 0), .int (iI i)] (tG D α S P kn L V Pd ln G) (pI fun r G' => (¬ (0 ≤ i ∧ i ≤ 1) ∧ r = -2 ∧ G' = tG D α S P kn L V Pd ln G) ∨ ((0 ≤ i ∧ i ≤ 1) ∧ V i = 0 ∧ r = -5 ∧ G' = tG D α S P kn L V Pd ln G) ∨ ((0 ≤ i ∧ i ≤ 1) ∧ V i = 1 ∧ ∃ (P' : Int → Int) (kn' : Int) (S' : Int → Int), remR S P kn P' kn' ∧ (∀ j, 0 ≤ j → j < 138 → S' j = L (138 * i + j)) ∧ r = S' 7 ∧ G' = tG D α S' P' kn' L V Pd ln G)) := by
  refine gm_start (own := "EnergyDiscsModel") (lv := [some (.ref (α 0)), some (.int (iI i)), none]) (by decide +kernel) rfl (Nat.le_of_ble_eq_true rfl) rfl (fun p_ e_ s_ m_ args_ below_ meth_ c_ hc hnm => ?_)
  refine gw_iload_n (q := 1) hc dX2_restore_0 rfl rfl xg_1 ?_
  refine gw_iconst (q := 2) hc dX2_restore_1 rfl ?_
  refine gw_iconst (q := 3) hc dX2_restore_2 rfl ?_
  refine gw_callS (q := 6) (bc' := 0) (bs' := 0) (As := [_, _, _]) hc dX2_restore_3 rfl q1280 mw_X2_in rfl rfl (m_X2_in (by omega) (by omega) (by omega)) ⟨Nat.le_of_ble_eq_true rfl, Nat.le_of_ble_eq_true rfl⟩ (Nat.le_of_ble_eq_true rfl) (Nat.le_of_ble_eq_true rfl) (Nat.le_of_ble_eq_true rfl) (goI fun r3 G3 h3 => ?_)
  obtain ⟨b3, rfl⟩ := h3
  refine gw_if_ne  (q := 9) (t := 12) hc dX2_restore_6 rfl (by decide) (by omega) (fun c6 => ?_) (fun c6 => ?_)
  · have hV1 := hV i (by omega) (by omega)
    refine gw_aload_n (q := 13) hc dX2_restore_12 rfl rfl xg_0 ?_
    refine gw_get (q := 16) hc dX2_restore_13 rfl cE_MO 4 (by decide) q1256 (fun _ h => h) (tg_m hα) xg_4 ?_
    refine gw_iload_n (q := 17) hc dX2_restore_16 rfl rfl xg_1 ?_
    refine gw_zald (q := 18) hc dX2_restore_17 rfl (tg_v hα) (by omega) (by omega) ?_
    refine gw_if_ne  (q := 21) (t := 24) hc dX2_restore_18 rfl (by decide) (by omega) (fun c18 => ?_) (fun c18 => ?_)
    · skip
      refine gw_aload_n (q := 25) hc dX2_restore_24 rfl rfl xg_0 ?_
      refine gw_callV (q := 28) (bc' := 0) (bs' := 0) (As := []) hc dX2_restore_25 rfl q1289 mw_X2_remembers (rc_o hc cE_MO (tg_m hα)) rfl rfl (m_X2_remembers hα hkn) ⟨Nat.le_of_ble_eq_true rfl, Nat.le_of_ble_eq_true rfl⟩ (Nat.le_of_ble_eq_true rfl) (Nat.le_of_ble_eq_true rfl) (Nat.le_of_ble_eq_true rfl) (goV fun G25 h25 => ?_)
      obtain ⟨P1, kn1, rfl, hrem⟩ := h25
      refine gw_iconst (q := 29) hc dX2_restore_28 rfl ?_
      refine gw_istore_n (q := 30) hc dX2_restore_29 rfl rfl xs_2 (by decide) (n2p xg_1 rfl) ?_
      refine gw_loop (σ := Int × (Int → Int)) (fun x => (0 ≤ x.1 ∧ x.1 ≤ 138) ∧ ∀ j, 0 ≤ j → j < x.1 → x.2 j = L (138 * i + j)) (fun x => (138 - x.1).toNat) (fun x => tG D α x.2 P1 kn1 L V Pd ln G) (fun x => [some (.ref (α 0)), some (.int (iI i)), some (.int (iI x.1))]) ?_ (0, S) ⟨⟨by omega, by omega⟩, fun j h1 h2 => by omega⟩
      rintro ⟨k, S1⟩ hI30 ih30
      try dsimp only at hI30 ⊢
      refine gw_iload_n (q := 31) hc dX2_restore_30 rfl rfl xg_2 ?_
      refine gw_sipush (q := 34) hc dX2_restore_31 rfl (by decide) ?_
      refine gw_icmp_ge  (q := 37) (t := 61) hc dX2_restore_34 rfl (by decide) (by omega) (by omega) (fun c34 => ?_) (fun c34 => ?_)
      · skip
        refine gw_aload_n (q := 62) hc dX2_restore_61 rfl rfl xg_0 ?_
        refine gw_bipush (q := 64) hc dX2_restore_62 rfl (by decide) ?_
        refine gw_callV (q := 67) (bc' := 0) (bs' := 0) (As := [_]) hc dX2_restore_64 rfl q1293 mw_X2_num (rc_o hc cE_MO (tg_m hα)) rfl rfl (m_X2_num hα (by omega)) ⟨Nat.le_of_ble_eq_true rfl, Nat.le_of_ble_eq_true rfl⟩ (Nat.le_of_ble_eq_true rfl) (Nat.le_of_ble_eq_true rfl) (Nat.le_of_ble_eq_true rfl) (goI fun r64 G64 h64 => ?_)
        obtain ⟨rfl, rfl⟩ := h64
        exact gw_iret hc dX2_restore_67 ⟨_, rfl, Or.inr (Or.inr ⟨by omega, by omega, P1, kn1, S1, hrem, fun j a b => hI30.2 j a (by omega), rfl, rfl⟩)⟩
      · skip
        refine gw_aload_n (q := 38) hc dX2_restore_37 rfl rfl xg_0 ?_
        refine gw_get (q := 41) hc dX2_restore_38 rfl cE_MO 0 (by decide) q1252 (fun _ h => h) (tg_m hα) xg_0 ?_
        refine gw_iload_n (q := 42) hc dX2_restore_41 rfl rfl xg_2 ?_
        refine gw_aload_n (q := 43) hc dX2_restore_42 rfl rfl xg_0 ?_
        refine gw_get (q := 46) hc dX2_restore_43 rfl cE_MO 3 (by decide) q1255 (fun _ h => h) (tg_m hα) xg_3 ?_
        refine gw_sipush (q := 49) hc dX2_restore_46 rfl (by decide) ?_
        refine gw_iload_n (q := 50) hc dX2_restore_49 rfl rfl xg_1 ?_
        refine gw_imul (q := 51) hc dX2_restore_50 rfl ?_
        refine gw_iload_n (q := 52) hc dX2_restore_51 rfl rfl xg_2 ?_
        refine gw_iadd (q := 53) hc dX2_restore_52 rfl ?_
        refine gw_lald (q := 54) hc dX2_restore_53 rfl (tg_l hα) (by omega) (by omega) ?_
        refine gw_last (q := 55) hc dX2_restore_54 rfl (tg_s hα) (by omega) (by omega) ?_
        refine gw_G (tu_s hα) ?_
        refine gw_iinc (q := 58) hc dX2_restore_55 rfl xg_2 xs_2 (by decide) (n2p xg_1 rfl) ?_
        refine gw_goto (q := 30) hc dX2_restore_58 (by decide) ?_
        exact ih30 (k + 1, fu S1 k (L (138 * i + k))) (by dsimp only; exact ⟨⟨by omega, by omega⟩, fun j h1 h2 => by unfold fu; split; (rename_i e; rw [e]); exact hI30.2 j h1 (by omega)⟩) (by dsimp only; omega)
    · skip
      refine gw_bipush (q := 23) hc dX2_restore_21 rfl (by decide) ?_
      exact gw_iret hc dX2_restore_23 ⟨_, rfl, Or.inr (Or.inl ⟨by omega, by omega, rfl, rfl⟩)⟩
  · skip
    refine gw_bipush (q := 11) hc dX2_restore_9 rfl (by decide) ?_
    exact gw_iret hc dX2_restore_11 ⟨_, rfl, Or.inl ⟨by omega, rfl, rfl⟩⟩

