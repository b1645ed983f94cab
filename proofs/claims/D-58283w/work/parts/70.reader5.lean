/-! ===== READING ORDERS: all of them ===== -/
set_option maxRecDepth 100000
section QS
variable {Pd : Int → Int} {ln : Int}
/-- the reading of a whole text: at the order m -/
def rdQ (Pd : Int → Int) (ln : Int) (m : Nat) (sp wr n : Int) : Prop :=
  (wr = 1 ∧ faF Pd ln 80 0 = sp ∧ 0 ≤ sp) ∨ (wr = 0 ∧ n = m + 1 ∧ faF Pd ln 80 0 = faF Pd ln (80 - m) (qsF Pd ln m) ∧ (2 * (m : Int) ≤ qsF Pd ln m ∧ qsF Pd ln m < ln) ∧ (∀ i : Nat, i ≤ m → 0 ≤ qsF Pd ln i ∧ qsF Pd ln i < ln ∧ kwF (cd Pd ln (qsF Pd ln i)) ≠ 6 ∧ 0 ≤ oeF Pd ln (qsF Pd ln i)) ∧ sp = oeF Pd ln (qsF Pd ln m) ∧ (qsF Pd ln m + 1 ≤ sp ∧ sp ≤ ln))
theorem cd_ln {q : Int} (h : kwF (cd Pd ln q) ≠ 6) : q < ln := Classical.byContradiction fun z => h (by unfold cd; rw [if_neg z]; rfl)
/-- one order more is read -/
theorem rdQ_s (hp : padW Pd ln) {m : Nat} {sp wr n : Int} (h0 : 0 ≤ qsF Pd ln m) (h2 : 2 * (m : Int) ≤ qsF Pd ln m) (hl : qsF Pd ln m ≤ ln) (hf : faF Pd ln 80 0 = faF Pd ln (80 - m) (qsF Pd ln m)) (hb : ∀ i : Nat, i < m → 0 ≤ qsF Pd ln i ∧ qsF Pd ln i < ln ∧ kwF (cd Pd ln (qsF Pd ln i)) ≠ 6 ∧ 0 ≤ oeF Pd ln (qsF Pd ln i))
    (h : (kwF (cd Pd ln (qsF Pd ln m)) = 6 ∧ sp = qsF Pd ln m ∧ wr = 1) ∨ (kwF (cd Pd ln (qsF Pd ln m)) ≠ 6 ∧ sp = orS Pd ln (kwF (cd Pd ln (qsF Pd ln m))) (qsF Pd ln m + 1) ∧ wr = orW Pd ln (kwF (cd Pd ln (qsF Pd ln m))) (qsF Pd ln m + 1) ∧ n = m + 1)) : rdQ Pd ln m sp wr n := by
  have hm : m ≤ 40 := by have := hp.1; omega
  obtain ⟨k, hk⟩ : ∃ k, 80 - m = k + 1 := ⟨79 - m, by omega⟩
  have e : faF Pd ln 80 0 = faF Pd ln (k + 1) (qsF Pd ln m) := by rw [hf, hk]
  simp only [faF] at e
  have hf0 : faF Pd ln 80 0 = faF Pd ln (80 - m) (qsF Pd ln m) := hf
  rcases h with ⟨h6, h7, h8⟩ | ⟨h6, h7, h8, h9⟩
  · left
    have ho := oe_6 h6
    refine ⟨h8, ?_, by omega⟩
    have e2 : faF Pd ln 80 0 = -1 - oeF Pd ln (qsF Pd ln m) := by
      rw [hf, hk]; simp only [faF]; rw [if_pos (by omega)]
    omega
  · have hq := cd_ln h6
    obtain ⟨a, b⟩ := or_oe hp h0 h6
    by_cases z : oeF Pd ln (qsF Pd ln m) < 0
    · left
      obtain ⟨a1, a2⟩ := a z
      have e2 : faF Pd ln 80 0 = -1 - oeF Pd ln (qsF Pd ln m) := by
        rw [hf, hk]; simp only [faF]; rw [if_pos z]
      exact ⟨by omega, by omega, by omega⟩
    · obtain ⟨b1, b2, b3⟩ := b (by omega)
      rcases b3 with b3 | ⟨b3, b4, b5⟩
      · right
        refine ⟨by omega, h9, hf, ⟨h2, hq⟩, fun i hi => ?_, by omega, by omega⟩
        by_cases y : i = m
        · subst y; exact ⟨h0, hq, h6, by omega⟩
        · exact hb i (by omega)
      · left
        have e2 : faF Pd ln 80 0 = oeF Pd ln (qsF Pd ln m) := by
          rw [hf, hk]; simp only [faF]; rw [if_neg z, if_neg (by omega), if_pos b5]
        exact ⟨by omega, by omega, by omega⟩
theorem rdQ_end {m : Nat} {sp n : Int} (hp : padW Pd ln) (h : rdQ Pd ln m sp 0 n) (he : ln ≤ sp) : faF Pd ln 80 0 = -6 := by
  rcases h with ⟨h1, -⟩ | ⟨-, h1, h2, h3, h4, h5, h6⟩
  · omega
  · obtain ⟨k, hk⟩ : ∃ k, 80 - m = k + 1 := ⟨79 - m, by have := hp.1; omega⟩
    rw [h2, hk]
    simp only [faF]
    rw [if_neg (by omega), if_pos (by omega)]
theorem rdQ_bad {m : Nat} {sp n : Int} (hp : padW Pd ln) (h : rdQ Pd ln m sp 0 n) (he : sp < ln) (hc : cd Pd ln sp ≠ 59) : rdQ Pd ln m sp 1 n := by
  rcases h with ⟨h1, -⟩ | ⟨-, h1, h2, h3, h4, h5, h6⟩
  · omega
  · obtain ⟨k, hk⟩ : ∃ k, 80 - m = k + 1 := ⟨79 - m, by have := hp.1; omega⟩
    left
    refine ⟨rfl, ?_, by omega⟩
    rw [h2, hk]
    simp only [faF]
    rw [if_neg (by omega), if_neg (by omega), if_pos (by rw [← h5]; exact hc)]
    exact h5.symm
theorem rdQ_next {m : Nat} {sp n : Int} (hp : padW Pd ln) (h : rdQ Pd ln m sp 0 n) (he : sp < ln) (hc : cd Pd ln sp = 59) : (n = m + 1 ∧ 0 ≤ qsF Pd ln (m + 1) ∧ 2 * ((m + 1 : Nat) : Int) ≤ qsF Pd ln (m + 1) ∧ qsF Pd ln (m + 1) ≤ ln) ∧ qsF Pd ln (m + 1) = sp + 1 ∧ faF Pd ln 80 0 = faF Pd ln (80 - (m + 1)) (qsF Pd ln (m + 1)) ∧ ∀ i : Nat, i < m + 1 → 0 ≤ qsF Pd ln i ∧ qsF Pd ln i < ln ∧ kwF (cd Pd ln (qsF Pd ln i)) ≠ 6 ∧ 0 ≤ oeF Pd ln (qsF Pd ln i) := by
  rcases h with ⟨h1, -⟩ | ⟨-, h1, h2, h3, h4, h5, h6⟩
  · omega
  · obtain ⟨k, hk⟩ : ∃ k, 80 - m = k + 1 := ⟨79 - m, by have := hp.1; omega⟩
    have eq : qsF Pd ln (m + 1) = sp + 1 := by rw [h5]; rfl
    refine ⟨⟨h1, by omega, by push_cast; omega, by omega⟩, eq, ?_, fun i hi => h4 i (by omega)⟩
    rw [h2, hk, show 80 - (m + 1) = k by omega]
    simp only [faF]
    rw [if_neg (by omega), if_neg (by omega), if_neg (by rw [← h5]; omega)]
    rfl
end QS

theorem faF_b {Pd : Int → Int} {ln : Int} (hp : padW Pd ln) : ∀ (k : Nat) (q : Int), 0 ≤ q → q ≤ 81 → -6 ≤ faF Pd ln k q ∧ faF Pd ln k q ≤ 100
  | 0, q, _, _ => by simp [faF]
  | k + 1, q, h0, h1 => by
    have hr := oeF_r (Pd := Pd) (ln := ln) h0
    have hpb := hp.1
    simp only [faF]
    split
    · omega
    · split
      · omega
      · split
        · omega
        · rename_i a b c
          have hlt : oeF Pd ln q < ln := cd_o (c := 59) (Classical.byContradiction fun z => c z) (by omega)
          exact faF_b hp k _ (by omega) (by omega)
theorem rdQ_b {Pd : Int → Int} {ln : Int} (hp : padW Pd ln) {m : Nat} {sp wr n : Int} (h : rdQ Pd ln m sp wr n) : -1 ≤ sp ∧ sp ≤ 2000000000 := by
  have hb := faF_b hp 80 0 (by omega) (by omega)
  have hpb := hp.1
  rcases h with ⟨-, h1, h2⟩ | ⟨-, h1, h2, h3, h4, h5, h6⟩ <;> omega
theorem rd_set {D : va_G} {X tg : Nat → Nat} {Pd qs : Int → Int} {ln sp wr n sp' wr' : Int} {rd e ol : Nat} {G : gM} {c : va_E} (h : rdR D X tg Pd ln rd e sp wr n qs G) (hR : G rd = some (rdO ol sp wr e)) (hc : c = rdO ol sp' wr' e) : rdR D X tg Pd ln rd e sp' wr' n qs (gup G rd c) := by
  obtain ⟨ol2, el, h1, ⟨h2, h3⟩, h4, h5⟩ := h
  have e1 : ol2 = ol := by
    have q := h1.symm.trans hR
    have q2 := congrArg (fun o : Option va_E => match o with | some (.inr (_, fs)) => fs.getD 0 .null | _ => .null) q
    exact Value.ref.inj q2
  subst e1
  refine ⟨ol2, el, by rw [gup_s, hc], ⟨h2, h3⟩, alR_mv h4 (fun f hf => by rw [gup_n (fun z => by rw [z] at h3; omega)]; exact hf) (fun q f hf hq => ⟨by rw [gup_n (fun z => by rw [z] at hq; omega)]; exact hf, rfl⟩), fun i a b => ⟨(h5 i a b).1, by rw [gup_n (fun z => by have x1 := (h5 i a b).1; rw [z] at x1; omega)]; exact (h5 i a b).2⟩⟩
theorem rd_n {D : va_G} {X tg : Nat → Nat} {Pd qs : Int → Int} {ln sp wr n : Int} {rd e : Nat} {G : gM} (h : rdR D X tg Pd ln rd e sp wr n qs G) : 0 ≤ n := by
  obtain ⟨ol, el, -, -, ⟨_, _, -, -, h, -⟩, -⟩ := h
  exact h.1
theorem mw_X5_readOrder : mV "EnergyDiscs$Reader" yX5_readOrder cX5_readOrder 2 none 0 := ⟨⟨rfl, by decide +kernel, by decide +kernel, by decide +kernel⟩, q1015, qs31, q95, q1016⟩
set_option maxHeartbeats 4000000 in
theorem m_X5_init {l : Launch} {D : va_G} {X : Nat → Nat} {b0 : Nat} {tg : Nat → Nat} {rd e a0 pl sv pd : Nat} {ln : Int} {Pd : Int → Int} {G : gM} (hR : G rd = some (oE 5 [.null, .int (iI 0), .int (iI 0), .null])) (htr : tg rd = 99200) (hE : G e = some (edO a0 pl sv pd)) (hte : tg e / 100 = 995) (hS : sbR D tg 996 pd ln Pd G) (hp : padW Pd ln) : gMet l D X b0 yX5_init cX5_init 2 none (rmE 12 85 2817) [.ref rd, .ref e] G (pV fun G' => ∃ (tg' : Nat → Nat) (m : Nat) (sp wr n : Int) (qs : Int → Int), tgR tg tg' 992 G G' ∧ rdR D X tg' Pd ln rd e sp wr n qs G' ∧ rdQ Pd ln m sp wr n ∧ (wr = 1 ∨ (wr = 0 ∧ ln ≤ sp)) ∧ ∀ i : Nat, (i : Int) < n → qs i = qsF Pd ln i) := by
  refine gm_start (own := "EnergyDiscs$Reader") (lv := [some (.ref rd), some (.ref e)]) (by decide +kernel) rfl (Nat.le_of_ble_eq_true rfl) rfl (fun p_ e_ s_ m_ args_ below_ meth_ c_ hc hnm => ?_)
  have hre : rd ≠ e := fun z => by rw [z, hE] at hR; cases hR
  have hpb := hp.1
  refine gw_aload_n (q := 1) hc dX5_init_0 rfl rfl xg_0 ?_
  refine gw_aload_n (q := 2) hc dX5_init_1 rfl rfl xg_1 ?_
  refine gw_putF (q := 5) hc dX5_init_2 rfl cE_RE 3 (by decide) q1204 (fun _ h => h) rfl hnm rfl hR ⟨rfl, rfl⟩ rfl (Nat.le_of_ble_eq_true rfl) ?_
  refine gw_aload_n (q := 6) hc dX5_init_5 rfl rfl xg_0 ?_
  refine gw_objInit (q := 9) hc dX5_init_6 rfl q1010 (Nat.le_of_ble_eq_true rfl) (Nat.le_of_ble_eq_true rfl) ?_
  refine gw_aload_n (q := 10) hc dX5_init_9 rfl rfl xg_0 ?_
  refine gw_new (q := 13) (fs := [.int (iI 0), .null, .int (iI 0)]) hc dX5_init_10 rfl cE_AL q1011 q113 q77 (fun j hj => by rcases (by omega : j = 0 ∨ j = 1 ∨ j = 2) with rfl | rfl | rfl <;> rfl) (bc' := 84) (bs' := 2814) (Nat.le_of_ble_eq_true rfl) (Nat.le_of_ble_eq_true rfl) (fun x hnx hbx => ?_)
  have hxr : x ≠ rd := (none_gup hnx).1
  have hx0 := (none_gup hnx).2
  refine gw_dup (q := 14) hc dX5_init_13 rfl rfl ?_
  refine gw_callI (q := 17) (bc' := 84) (bs' := 2814) (As := []) hc dX5_init_14 rfl q1012 mw_J2_init rfl rfl (m_J2_init gup_s) ⟨Nat.le_of_ble_eq_true rfl, Nat.le_of_ble_eq_true rfl⟩ (Nat.le_of_ble_eq_true rfl) (Nat.le_of_ble_eq_true rfl) (Nat.le_of_ble_eq_true rfl) (goV fun G14 h14 => ?_)
  subst h14
  refine gw_G gup_gup ?_
  refine gw_putF (q := 20) hc dX5_init_17 rfl cE_RE 0 (by decide) q1198 (fun _ h => h) rfl hnm rfl (gup_k gup_s hnx) ⟨rfl, rfl⟩ rfl (Nat.le_of_ble_eq_true rfl) ?_
  refine gw_G (show _ = gup (gup (gup G rd (oE 5 [.null, .int (iI 0), .int (iI 0), .ref e])) x (alO 0 (X 0) 0)) rd (rdO x 0 0 e) from rfl) ?_
  refine gw_G (gup_xr2 hxr) ?_
  have ht1 := tgR_new (tg := tg) (hid := 992) (t := 99201) (e := alO 0 (X 0) 0) hx0 (Or.inl (by omega))
  obtain ⟨tg1, etg1⟩ : ∃ tg1 : Nat → Nat, tg1 = fun q => if q = x then 99201 else tg q := ⟨_, rfl⟩
  rw [← etg1] at ht1
  have ktg : ∀ q, G q ≠ none → tg1 q = tg q := fun q hq => by rw [etg1]; exact if_neg (fun z => hq (by rw [z]; exact hx0))
  have htr1 : tg1 rd = 99200 := by rw [ktg _ (nn_s hR)]; exact htr
  have ht2 := tgR_upH (a := rd) (e := rdO x 0 0 e) ht1 (by omega) (gup_nn (nn_s hR))
  obtain ⟨G2, hG2⟩ : ∃ G2, G2 = gup (gup G x (alO 0 (X 0) 0)) rd (rdO x 0 0 e) := ⟨_, rfl⟩
  rw [← hG2] at ht2 ⊢
  have hRd2 : rdR D X tg1 Pd ln rd e 0 0 0 (fun _ => 0) G2 := ⟨x, fun _ => 0, by rw [hG2]; exact gup_s, ⟨htr1, by rw [etg1]; exact if_pos rfl⟩, ⟨0, X 0, ⟨by omega, by omega⟩, by rw [hG2, gup_n hxr]; exact gup_s, by omega, Or.inl ⟨rfl, rfl⟩⟩, fun i a b => by omega⟩
  have hE2 := ht2.2.1 _ _ hE (by omega) (by omega)
  have hte2 : tg1 e / 100 = 995 := by rw [ktg _ (nn_s hE)]; exact hte
  have hS2 := sb_tg hS ht2 (by omega) (by omega)
  refine gw_aload_n (q := 21) hc dX5_init_20 rfl rfl xg_0 ?_
  refine gw_callV (q := 24) (bc' := 82) (bs' := 2747) (As := []) hc dX5_init_21 rfl q1013 mw_X5_readOrder (rc_o hc cE_RE (by rw [hG2]; exact gup_s)) rfl rfl (m_X5_readOrder hRd2 hE2 hte2 hS2 hp (by omega) (by omega)) ⟨Nat.le_of_ble_eq_true rfl, Nat.le_of_ble_eq_true rfl⟩ (Nat.le_of_ble_eq_true rfl) (Nat.le_of_ble_eq_true rfl) (Nat.le_of_ble_eq_true rfl) (goV fun G21 h21 => ?_)
  obtain ⟨tg3, ht3, hcase⟩ := h21
  have htt := tgR_tr (by omega) ht2 ht3
  have hE3 := htt.2.1 _ _ hE (by omega) (by omega)
  have hS3 := sb_tg hS htt (by omega) (by omega)
  have hinit : ∃ (sp wr n : Int) (qs : Int → Int), (rdR D X tg3 Pd ln rd e sp wr n qs G21 ∧ rdQ Pd ln 0 sp wr n) ∧ ∀ i : Nat, (i : Int) < n → qs i = qsF Pd ln i := by
      have hpb := hp.1
      rcases hcase with ⟨h6, hq⟩ | ⟨h6, hq⟩
      · exact ⟨_, _, _, _, ⟨hq, rdQ_s hp (m := 0) (show (0 : Int) ≤ 0 by decide) (show 2 * ((0 : Nat) : Int) ≤ 0 by decide) hpb.1 rfl (fun i hi => by omega) (Or.inl ⟨h6, rfl, rfl⟩)⟩, fun i hi => by omega⟩
      · exact ⟨_, _, _, _, ⟨hq, rdQ_s hp (m := 0) (show (0 : Int) ≤ 0 by decide) (show 2 * ((0 : Nat) : Int) ≤ 0 by decide) hpb.1 rfl (fun i hi => by omega) (Or.inr ⟨h6, rfl, rfl, rfl⟩)⟩, fun i hi => by rw [show i = 0 by omega]; exact fu_s⟩
  obtain ⟨sp0, wr0, n0, qs0, ⟨hRd3, hQ3⟩, hqs3⟩ := hinit
  refine gw_lessB (bc' := 82) (bs' := 2747) (Nat.le_of_ble_eq_true rfl) (Nat.le_of_ble_eq_true rfl) ?_
  refine gw_loopB (σ := Nat × Int × Int × Int × (Int → Int) × (Nat → Nat) × gM) (fun x => (tgR tg x.2.2.2.2.2.1 992 G x.2.2.2.2.2.2 ∧ rdR D X x.2.2.2.2.2.1 Pd ln rd e x.2.1 x.2.2.1 x.2.2.2.1 x.2.2.2.2.1 x.2.2.2.2.2.2 ∧ rdQ Pd ln x.1 x.2.1 x.2.2.1 x.2.2.2.1) ∧ x.1 ≤ 40 ∧ ∀ i : Nat, (i : Int) < x.2.2.2.1 → x.2.2.2.2.1 i = qsF Pd ln i) (fun x => 2 * (41 - x.1) + (if x.2.2.1 = 1 then 0 else 1)) (fun x => x.2.2.2.2.2.2) (fun x => [some (.ref rd), some (.ref e)]) (fun x => 2 * (41 - x.1) + 0) (fun x => 67 * (41 - x.1) + 0) ?_ ⟨0, sp0, wr0, n0, qs0, tg3, G21⟩ ⟨⟨htt, hRd3, hQ3⟩, by dsimp only; omega, hqs3⟩
  rintro ⟨m, sp, wr, n, qs, tg4, G4⟩ hI24 ih24
  try dsimp only at hI24 ih24 ⊢
  obtain ⟨⟨ht4, hRd4, hQ4⟩, hm4, hqs4⟩ := hI24
  obtain ⟨ol, el, hR4, ⟨htr4, hto4⟩, hal4, hel4⟩ := id hRd4
  have hE4 := ht4.2.1 _ _ hE (by omega) (by omega)
  have hte4 : tg4 e / 100 = 995 := by rw [ht4.1 _ (nn_s hE) (by omega)]; exact hte
  have hS4 := sb_tg hS ht4 (by omega) (by omega)
  obtain ⟨vl4, mb4, cap4, f4, hG4, -⟩ := id hS4
  have hwb : wr = 0 ∨ wr = 1 := by rcases hQ4 with ⟨q, -⟩ | ⟨q, -⟩ <;> omega
  have hspb : -1 ≤ sp ∧ sp ≤ 2000000000 := rdQ_b hp hQ4
  refine gw_aload_n (q := 25) hc dX5_init_24 rfl rfl xg_0 ?_
  refine gw_get (q := 28) hc dX5_init_25 rfl cE_RE 2 (by decide) q1202 (fun _ h => h) hR4 rfl ?_
  refine gw_if_ne  (q := 31) (t := 58) hc dX5_init_28 rfl (by decide) (by omega) (fun c28 => ?_) (fun c28 => ?_)
  · skip
    exact gw_vret hc dX5_init_58 ⟨rfl, ⟨tg4, m, sp, wr, n, qs, ht4, hRd4, hQ4, by omega, hqs4⟩⟩
  · skip
    refine gw_aload_n (q := 32) hc dX5_init_31 rfl rfl xg_0 ?_
    refine gw_get (q := 35) hc dX5_init_32 rfl cE_RE 1 (by decide) q1200 (fun _ h => h) hR4 rfl ?_
    refine gw_aload_n (q := 36) hc dX5_init_35 rfl rfl xg_1 ?_
    refine gw_getN (q := 39) hc dX5_init_36 rfl cE_ED 3 (by decide) q201 (fun _ h => h) hE4 rfl ?_
    refine gw_callV (q := 42) (bc' := (2 * (41 - m) + 0 + 0)) (bs' := (67 * (41 - m) + 0 + 0)) (As := []) hc dX5_init_39 rfl q1197 mw_J4_length (rc_o hc cE_SB hG4) rfl rfl (m_J4_length hG4) ⟨Nat.le_of_ble_eq_true rfl, Nat.le_of_ble_eq_true rfl⟩ (Nat.le_of_ble_eq_true rfl) (by dsimp only [rmE]; omega) (by dsimp only [rmE]; omega) (goI fun r39 G39 h39 => ?_)
    obtain ⟨er39, hgg⟩ := h39
    rw [hgg, er39]
    refine gw_icmp_ge  (q := 45) (t := 58) hc dX5_init_42 rfl (by decide) (by omega) (by omega) (fun c42 => ?_) (fun c42 => ?_)
    · skip
      exact gw_vret hc dX5_init_58 ⟨rfl, ⟨tg4, m, sp, wr, n, qs, ht4, hRd4, hQ4, by omega, hqs4⟩⟩
    · skip
      refine gw_lessB (bc' := 2 * ((41 - m) - 1) + 0 + 2) (bs' := 67 * ((41 - m) - 1) + 0 + 67) (by omega) (by omega) ?_
      obtain rfl : wr = 0 := by omega
      have hatc := at_c (Pd := Pd) (ln := ln) (q := sp) (c := 59) (by decide)
      have hsp0 : 0 ≤ sp := by rcases hQ4 with ⟨q, -⟩ | ⟨-, -, -, h3, -, -, h6⟩ <;> omega
      refine gw_aload_n (q := 46) hc dX5_init_45 rfl rfl xg_0 ?_
      refine gw_bipush (q := 48) hc dX5_init_46 rfl (by decide) ?_
      refine gw_callV (q := 51) (bc' := (2 * ((41 - m) - 1) + 0 + 2)) (bs' := (67 * ((41 - m) - 1) + 0 + 67)) (As := [_]) hc dX5_init_48 rfl q1187 mw_X5_sign (rc_o hc cE_RE hR4) rfl rfl (m_X5_sign hR4 hE4 hS4 hp (by have := hp.1; omega) (Or.inl rfl) ⟨by omega, by omega⟩) ⟨Nat.le_of_ble_eq_true rfl, Nat.le_of_ble_eq_true rfl⟩ (Nat.le_of_ble_eq_true rfl) (by dsimp only [rmE]; omega) (by dsimp only [rmE]; omega) (goV fun G48 h48 => ?_)
      subst h48
      have hre4 : rd ≠ e := fun z => by rw [z] at htr4; omega
      by_cases c51 : cd Pd ln sp = 59
      · rw [if_pos ⟨rfl, hatc.mpr c51⟩, if_pos ⟨rfl, hatc.mpr c51⟩]
        obtain ⟨hn1, hq1, hf1, hb1⟩ := rdQ_next hp hQ4 (by omega) c51
        have ht5 := tgR_upH (a := rd) (e := rdO ol (sp + 1) 0 e) (tgR_rf (tg := tg4) (hid := 992) (G := G4)) (by omega) (nn_s hR4)
        have hRd5 := rd_set (c := rdO ol (sp + 1) 0 e) hRd4 hR4 rfl
        have hE5 := ht5.2.1 _ _ hE4 (by omega) (by omega)
        have hS5 := sb_tg hS4 ht5 (by omega) (by omega)
        refine gw_aload_n (q := 52) hc dX5_init_51 rfl rfl xg_0 ?_
        refine gw_callV (q := 55) (bc' := (2 * ((41 - m) - 1) + 0 + 0)) (bs' := (67 * ((41 - m) - 1) + 0 + 0)) (As := []) hc dX5_init_52 rfl q1013 mw_X5_readOrder (rc_o hc cE_RE gup_s) rfl rfl (m_X5_readOrder hRd5 hE5 hte4 hS5 hp (by omega) (by omega)) ⟨Nat.le_of_ble_eq_true rfl, Nat.le_of_ble_eq_true rfl⟩ (Nat.le_of_ble_eq_true rfl) (by dsimp only [rmE]; omega) (by dsimp only [rmE]; omega) (goV fun G52 h52 => ?_)
        obtain ⟨tg6, ht6, hcase6⟩ := h52
        have htt6 := tgR_tr (by omega) ht4 (tgR_tr (by omega) ht5 ht6)
        have hfin : ∃ (sp' wr' n' : Int) (qs' : Int → Int), (rdR D X tg6 Pd ln rd e sp' wr' n' qs' G52 ∧ rdQ Pd ln (m + 1) sp' wr' n') ∧ ∀ i : Nat, (i : Int) < n' → qs' i = qsF Pd ln i := by
            rw [← hq1] at hcase6
            rcases hcase6 with ⟨h6, hq⟩ | ⟨h6, hq⟩
            · exact ⟨_, _, _, _, ⟨hq, rdQ_s hp hn1.2.1 hn1.2.2.1 hn1.2.2.2 hf1 hb1 (Or.inl ⟨h6, rfl, rfl⟩)⟩, hqs4⟩
            · refine ⟨_, _, _, _, ⟨hq, rdQ_s hp hn1.2.1 hn1.2.2.1 hn1.2.2.2 hf1 hb1 (Or.inr ⟨h6, rfl, rfl, by have := hn1.1; push_cast; omega⟩)⟩, fun i hi => ?_⟩
              by_cases z : (i : Int) = n
              · rw [z, fu_s, show i = m + 1 by omega]
              · rw [fu_n z]; exact hqs4 i (by omega)
        obtain ⟨sp6, wr6, n6, qs6, ⟨hRd6, hQ6⟩, hqs6⟩ := hfin
        have hm41 : m + 1 ≤ 40 := by have := hp.1; omega
        refine gw_goto (q := 24) hc dX5_init_55 (by decide) ?_
        refine gw_lessB (by omega) (by omega) (ih24 ⟨m + 1, sp6, wr6, n6, qs6, tg6, G52⟩ ⟨⟨htt6, hRd6, hQ6⟩, hm41, hqs6⟩ (by dsimp only; split <;> split <;> omega))
      · rw [if_neg (fun z => c51 (hatc.mp z.2)), if_neg (fun z => c51 (hatc.mp z.2))]
        have hQ5 := rdQ_bad hp hQ4 (by omega) c51
        have ht5 := tgR_upH (a := rd) (e := rdO ol sp 1 e) (tgR_rf (tg := tg4) (hid := 992) (G := G4)) (by omega) (nn_s hR4)
        have hRd5 := rd_set (c := rdO ol sp 1 e) hRd4 hR4 rfl
        have hE5 := ht5.2.1 _ _ hE4 (by omega) (by omega)
        have hS5 := sb_tg hS4 ht5 (by omega) (by omega)
        refine gw_aload_n (q := 52) hc dX5_init_51 rfl rfl xg_0 ?_
        refine gw_callV (q := 55) (bc' := (2 * ((41 - m) - 1) + 0 + 2)) (bs' := (67 * ((41 - m) - 1) + 0 + 67)) (As := []) hc dX5_init_52 rfl q1013 mw_X5_readOrder (rc_o hc cE_RE gup_s) rfl rfl (m_X5_readOrder_w hRd5 hE5 hte4 hS5 hp (by omega)) ⟨Nat.le_of_ble_eq_true rfl, Nat.le_of_ble_eq_true rfl⟩ (Nat.le_of_ble_eq_true rfl) (by dsimp only [rmE]; omega) (by dsimp only [rmE]; omega) (goV fun G52 h52 => ?_)
        subst h52
        refine gw_goto (q := 24) hc dX5_init_55 (by decide) ?_
        refine gw_lessB (by omega) (by omega) (ih24 ⟨m, sp, 1, n, qs, tg4, gup G4 rd (rdO ol sp 1 e)⟩ ⟨⟨tgR_tr (by omega) ht4 ht5, hRd5, hQ5⟩, hm4, hqs4⟩ (by show 2 * (41 - m) + (if (1 : Int) = 1 then 0 else 1) < 2 * (41 - m) + (if (0 : Int) = 1 then 0 else 1); rw [if_pos rfl, if_neg (by omega)]; omega))

