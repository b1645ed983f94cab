/-! ===== THE CLASS: powers, sets ===== -/
set_option maxRecDepth 100000
/-- only meters' cells of house hid change -/
def frM (tg : Nat → Nat) (hid : Nat) (G G' : gM) : Prop := ∀ q, (tg q < 100 * hid + 10 ∨ 100 * hid + 17 ≤ tg q) → G' q = G q
theorem frM_rf {tg : Nat → Nat} {hid : Nat} {G : gM} : frM tg hid G G := fun _ _ => rfl
theorem frM_tr {tg : Nat → Nat} {hid : Nat} {G G1 G2 : gM} (h1 : frM tg hid G G1) (h2 : frM tg hid G1 G2) : frM tg hid G G2 := fun q hq => (h2 q hq).trans (h1 q hq)
theorem frM_gup {tg : Nat → Nat} {hid : Nat} {G G1 : gM} {a m : Nat} {e : va_E} (h : frM tg hid G G1) (ha : tg a = 100 * hid + (10 + m)) (hm : m < 7) : frM tg hid G (gup G1 a e) := fun q hq => by
  rw [gup_n (fun z => by rw [z, ha] at hq; omega)]
  exact h q hq
/-- powers laid through k -/
def lpW (S W : Int → Int) (k : Int) : Int → Int := fun x => if thr S x k = true then pw S x else W x

/-- the powers when those through the first i children are laid -/
def lpS (S W : Int → Int) (k i : Nat) (y : Nat) : Int := if y = k then own S k + smL (fun c => pw S (c : Int)) ((chL S k).take i) else if ((chL S k).take i).any (fun c => thr S y (c : Int)) = true then pw S y else W y
theorem lpS_0 {S W : Int → Int} {k : Nat} {L : Nat} (hL : L = (lsL S k).length) : ∀ y : Nat, (y : Int) < S 7 → fu W (k : Int) (smL (pwr S) ((lsL S k).take L)) y = lpS S W k 0 y := by
  subst hL
  intro y _
  unfold lpS own
  rw [List.take_length]
  by_cases h : y = k
  · subst h; rw [fu_s, if_pos rfl]; simp [smL]
  · rw [fu_n (by omega), if_neg h]; simp
theorem lpS_s {S W W2 : Int → Int} {k i : Nat} (hT : treeW S) (h : ∀ y : Nat, (y : Int) < S 7 → W2 y = lpS S W k i y) (hi : i < (chL S k).length) (hk : (k : Int) < S 7) (hk0 : k < 7) : ∀ y : Nat, (y : Int) < S 7 → fu (lpW S W2 ((chL S k).getD i 0 : Nat)) (k : Int) (W2 k + pw S ((chL S k).getD i 0 : Nat)) y = lpS S W k (i + 1) y := by
  intro y hy
  by_cases e : y = k
  · subst e
    rw [fu_s, h y hk]
    unfold lpS
    rw [if_pos rfl, if_pos rfl, smL_take hi]
    omega
  · rw [fu_n (by omega)]
    unfold lpW
    rw [h y hy]
    unfold lpS
    rw [if_neg e, if_neg e, List.take_succ, List.any_append, List.getElem?_eq_getElem hi]
    have e2 : (chL S k).getD i 0 = (chL S k)[i] := by rw [List.getD_eq_getElem?_getD, List.getElem?_eq_getElem hi]; rfl
    rw [e2]
    simp only [Option.toList, List.any_cons, List.any_nil, Bool.or_false]
    by_cases q : thr S (y : Int) ((chL S k)[i] : Nat) = true
    · rw [if_pos q, q, Bool.or_true, if_pos rfl]
    · rw [if_neg q]
      have : thr S (y : Int) ((chL S k)[i] : Nat) = false := by simpa using q
      rw [this, Bool.or_false]
theorem lpS_end {S W W2 : Int → Int} {k L : Nat} (hT : treeW S) (hLd : loadW S) (hL : L = (chL S k).length) (hk : (k : Int) < S 7) (h : ∀ y : Nat, (y : Int) < S 7 → W2 y = lpS S W k L y) : ∀ y : Nat, (y : Int) < S 7 → W2 y = lpW S W k y := by
  subst hL
  intro y hy
  rw [h y hy]
  unfold lpS lpW
  rw [List.take_length]
  by_cases e : y = k
  · subst e
    rw [if_pos rfl, if_pos thr_self]
    exact (pw_sum hT hLd (by omega)).symm
  · rw [if_neg e]
    have ha := thr_any hT (k := (k : Int)) (by omega) hy
    by_cases q : thr S (y : Int) k = true
    · rw [if_pos q, if_pos]
      obtain ⟨c, hc, hq⟩ := (ha.mp q).resolve_left (by omega)
      exact List.any_eq_true.mpr ⟨c, hc, hq⟩
    · rw [if_neg q, if_neg]
      intro z
      obtain ⟨c, hc, hq⟩ := List.any_eq_true.mp z
      exact q (ha.mpr (Or.inr ⟨c, hc, hq⟩))
theorem hs_W {D : va_G} {X tg : Nat → Nat} {hid : Nat} {A : Nat → Nat} {S W W' : Int → Int} {G : gM} (h : hsR D X tg hid A S W G) (he : ∀ y : Nat, (y : Int) < S 7 → W' y = W y) : hsR D X tg hid A S W' G := by
  obtain ⟨h1, h2, h3, h4, h5, h6, h7, h8⟩ := h
  refine ⟨h1, h2, h3, h4, h5, h6, fun k hk => ?_, h8⟩
  obtain ⟨a, b⟩ := h7 k hk
  exact ⟨by rw [mtC_E (S := S) (W := W) (he k hk) (fun _ _ _ => rfl)]; exact a, b⟩

theorem mf_J2_size_7 : mF "java/util/ArrayList" ⟨"java/util/List", "size", "()I"⟩ yJ2_size cJ2_size 1 (some FieldType.int) 0 := ⟨⟨by decide +kernel, by decide +kernel, by decide +kernel⟩, q236, q238, q77, q240, q234, q233, q239, q237, q235, by decide +kernel⟩
theorem mf_J2_get_7 : mF "java/util/ArrayList" ⟨"java/util/List", "get", "(I)Ljava/lang/Object;"⟩ yJ2_get cJ2_get 2 (some (FieldType.object "java/lang/Object")) 1 := ⟨⟨by decide +kernel, by decide +kernel, by decide +kernel⟩, q333, q335, q77, q337, q332, q331, q336, q334, q235, by decide +kernel⟩
theorem mw_X3_layPower : mV "EnergyDiscs$Meter" yX3_layPower cX3_layPower 2 (some FieldType.int) 0 := ⟨⟨rfl, by decide +kernel, by decide +kernel, by decide +kernel⟩, q646, q647, q87, q648⟩
set_option maxHeartbeats 4000000 in
theorem m_X3_layPower {l : Launch} {D : va_G} {X : Nat → Nat} {b0 : Nat} {tg : Nat → Nat} {hid : Nat} {A : Nat → Nat} {S : Int → Int} {N : Int} (hW : rowW S N) : ∀ (n k : Nat) (W : Int → Int) (G : gM), S 7 - k ≤ n → (k : Int) < S 7 → hsR D X tg hid A S W G → gMet l D X b0 yX3_layPower cX3_layPower 2 (some .int) (rmE (n + 3) 0 0) [.ref (A (10 + k))] G (pI fun r G' => r = pw S k ∧ hsR D X tg hid A S (lpW S W k) G' ∧ frM tg hid G G')
  | 0, k, W, G, h0, hk, hH => by omega
  | n + 1, k, W, G, h0, hk, hH => by
    have h7 := rw_7 hW
    have h8 := rw_8 hW
    obtain ⟨hme0, -, -⟩ := hH.2.2.2.2.2.2.1 k hk
    refine gm_start (own := "EnergyDiscs$Meter") (lv := [some (.ref (A (10 + k))), none]) (by decide +kernel) rfl (Nat.le_of_ble_eq_true rfl) rfl (fun p_ e_ s_ m_ args_ below_ meth_ c_ hc hnm => ?_)
    refine gw_aload_n (q := 1) hc dX3_layPower_0 rfl rfl xg_0 ?_
    refine gw_iconst (q := 2) hc dX3_layPower_1 rfl ?_
    refine gw_put (q := 5) hc dX3_layPower_2 rfl cE_ME 4 (by decide) q419 (fun _ h => h) rfl hme0 ⟨rfl, rfl⟩ rfl (by first | exact Nat.le_of_ble_eq_true rfl | (dsimp only [rmE]; omega)) ?_
    refine gw_G (show _ = gup G (A (10 + k)) (mtC A S (fu W (k : Int) (smL (pwr S) ((lsL S k).take (0)))) k) from by unfold mtC; rw [fu_s]; rfl) ?_
    refine gw_iconst (q := 6) hc dX3_layPower_5 rfl ?_
    refine gw_istore_n (q := 7) hc dX3_layPower_6 rfl rfl xs_1 (by decide) (n2p xg_0 rfl) ?_
    refine gw_loop (σ := Nat) (fun x => x ≤ (lsL S k).length) (fun x => (lsL S k).length - x) (fun x => gup G (A (10 + k)) (mtC A S (fu W (k : Int) (smL (pwr S) ((lsL S k).take (x)))) k)) (fun x => [some (.ref (A (10 + k))), some (.int (iI (x : Int)))]) ?_ 0 (Nat.zero_le _)
    rintro i hI7 ih7
    try dsimp only at hI7 ⊢
    have hHi := hs_upM (S' := S) (W' := (fu W (k : Int) (smL (pwr S) ((lsL S k).take (i))))) hH hk (fun _ _ _ _ _ => rfl) (fun q _ hq => fu_n (by omega))
    obtain ⟨hme, hfdI, hldI⟩ := hHi.2.2.2.2.2.2.1 k hk
    obtain ⟨mcl, arl, hmcl, hLc, hLa, -⟩ := alR_P hldI
    have hlen := ls_len (S := S) (k := (k : Int)) (by omega)
    refine gw_iload_n (q := 8) hc dX3_layPower_7 rfl rfl xg_1 ?_
    refine gw_aload_n (q := 9) hc dX3_layPower_8 rfl rfl xg_0 ?_
    refine gw_get (q := 12) hc dX3_layPower_9 rfl cE_ME 3 (by decide) q417 (fun _ h => h) hme rfl ?_
    refine gw_callF (q := 17) (bc' := 0) (bs' := 0) (As := []) hc dX3_layPower_12 rfl cE_AL q650 mf_J2_size_7 rfl rfl (m_J2_size hLc) (rc_o hc cE_AL hLc) ⟨by first | exact Nat.le_of_ble_eq_true rfl | (dsimp only [rmE]; omega), by first | exact Nat.le_of_ble_eq_true rfl | (dsimp only [rmE]; omega)⟩ (by first | exact Nat.le_of_ble_eq_true rfl | (dsimp only [rmE]; omega)) (by first | exact Nat.le_of_ble_eq_true rfl | (dsimp only [rmE]; omega)) (by first | exact Nat.le_of_ble_eq_true rfl | (dsimp only [rmE]; omega)) (goI fun r12 G12 h12 => ?_)
    obtain ⟨rfl, rfl⟩ := h12
    refine gw_icmp_ge  (q := 20) (t := 74) hc dX3_layPower_17 rfl (by decide) (by omega) (by omega) (fun c17 => ?_) (fun c17 => ?_)
    · skip
      obtain rfl : i = (lsL S k).length := by omega
      refine gw_iconst (q := 75) hc dX3_layPower_74 rfl ?_
      refine gw_istore_n (q := 76) hc dX3_layPower_75 rfl rfl xs_1 (by decide) (n2p xg_0 rfl) ?_
      refine gw_loop (σ := Nat × (Int → Int) × gM) (fun x => x.1 ≤ (chL S k).length ∧ hsR D X tg hid A S x.2.1 x.2.2 ∧ frM tg hid G x.2.2 ∧ (∀ y : Nat, (y : Int) < S 7 → x.2.1 y = lpS S W k x.1 y)) (fun x => (chL S k).length - x.1) (fun x => x.2.2) (fun x => [some (.ref (A (10 + k))), some (.int (iI (x.1 : Int)))]) ?_ ((0 : Nat), (fu W (k : Int) (smL (pwr S) ((lsL S k).take ((lsL S k).length)))), gup G (A (10 + k)) (mtC A S (fu W (k : Int) (smL (pwr S) ((lsL S k).take ((lsL S k).length)))) k)) ⟨Nat.zero_le _, hHi, frM_gup frM_rf (hH.2.1 _ (us_m hk)) (by omega), lpS_0 (by omega)⟩
      rintro ⟨i, W2, G2⟩ hI76 ih76
      try dsimp only at hI76 ⊢
      have hH2 := hI76.2.1
      obtain ⟨hme2, hfd2, hld2⟩ := hH2.2.2.2.2.2.2.1 k hk
      obtain ⟨mcf, arf, hmcf, hFc, hFa, -⟩ := alR_P hfd2
      have hlen2 := ch_len (S := S) (k := (k : Int)) (by omega)
      refine gw_iload_n (q := 77) hc dX3_layPower_76 rfl rfl xg_1 ?_
      refine gw_aload_n (q := 78) hc dX3_layPower_77 rfl rfl xg_0 ?_
      refine gw_get (q := 81) hc dX3_layPower_78 rfl cE_ME 2 (by decide) q415 (fun _ h => h) hme2 rfl ?_
      refine gw_callF (q := 86) (bc' := 0) (bs' := 0) (As := []) hc dX3_layPower_81 rfl cE_AL q650 mf_J2_size_7 rfl rfl (m_J2_size hFc) (rc_o hc cE_AL hFc) ⟨by first | exact Nat.le_of_ble_eq_true rfl | (dsimp only [rmE]; omega), by first | exact Nat.le_of_ble_eq_true rfl | (dsimp only [rmE]; omega)⟩ (by first | exact Nat.le_of_ble_eq_true rfl | (dsimp only [rmE]; omega)) (by first | exact Nat.le_of_ble_eq_true rfl | (dsimp only [rmE]; omega)) (by first | exact Nat.le_of_ble_eq_true rfl | (dsimp only [rmE]; omega)) (goI fun r81 G81 h81 => ?_)
      obtain ⟨rfl, rfl⟩ := h81
      refine gw_icmp_ge  (q := 89) (t := 120) hc dX3_layPower_86 rfl (by decide) (by omega) (by omega) (fun c86 => ?_) (fun c86 => ?_)
      · skip
        refine gw_aload_n (q := 121) hc dX3_layPower_120 rfl rfl xg_0 ?_
        refine gw_get (q := 124) hc dX3_layPower_121 rfl cE_ME 4 (by decide) q419 (fun _ h => h) hme2 rfl ?_
        exact gw_iret hc dX3_layPower_124 ⟨_, rfl, ⟨by rw [hI76.2.2.2 k hk]; unfold lpS; rw [if_pos rfl, List.take_of_length_le (by omega)]; exact (pw_sum hW.1.1 hW.1.2.1 (by omega)).symm, hs_W hH2 (fun y hy => (lpS_end hW.1.1 hW.1.2.1 (by omega : i = (chL S k).length) hk hI76.2.2.2 y hy).symm), hI76.2.2.1⟩⟩
      · obtain ⟨cap, f, hA1, hf1, hb1, hfi⟩ := alP_get hFa (i := (i : Int)) (by omega) (by omega)
        have hmem := gd_mem (L := chL S k) (i := i) (by omega)
        obtain ⟨hc7, hc0, hck⟩ := ch_mem.mp hmem
        have hcm := hW.1.1.2 _ (by omega) hc7
        obtain ⟨hch, -, -⟩ := hH2.2.2.2.2.2.2.1 _ hc7
        refine gw_aload_n (q := 90) hc dX3_layPower_89 rfl rfl xg_0 ?_
        refine gw_dup (q := 91) hc dX3_layPower_90 rfl rfl ?_
        refine gw_get (q := 94) hc dX3_layPower_91 rfl cE_ME 4 (by decide) q419 (fun _ h => h) hme2 rfl ?_
        refine gw_aload_n (q := 95) hc dX3_layPower_94 rfl rfl xg_0 ?_
        refine gw_get (q := 98) hc dX3_layPower_95 rfl cE_ME 2 (by decide) q415 (fun _ h => h) hme2 rfl ?_
        refine gw_iload_n (q := 99) hc dX3_layPower_98 rfl rfl xg_1 ?_
        refine gw_callF (q := 104) (bc' := 0) (bs' := 0) (As := [_]) hc dX3_layPower_99 rfl cE_AL q652 mf_J2_get_7 rfl rfl (m_J2_get hFc hA1 (by omega) (by omega) hfi) (rc_o hc cE_AL hFc) ⟨by first | exact Nat.le_of_ble_eq_true rfl | (dsimp only [rmE]; omega), by first | exact Nat.le_of_ble_eq_true rfl | (dsimp only [rmE]; omega)⟩ (by first | exact Nat.le_of_ble_eq_true rfl | (dsimp only [rmE]; omega)) (by first | exact Nat.le_of_ble_eq_true rfl | (dsimp only [rmE]; omega)) (by first | exact Nat.le_of_ble_eq_true rfl | (dsimp only [rmE]; omega)) (goA fun r99 G99 h99 => ?_)
        obtain ⟨rfl, rfl⟩ := h99
        refine gw_cast (q := 107) hc dX3_layPower_104 rfl q654 (rc_o hc cE_ME hch) ?_
        refine gw_callV (q := 110) (bc' := 0) (bs' := 0) (As := []) hc dX3_layPower_107 rfl q655 mw_X3_layPower (rc_o hc cE_ME hch) rfl rfl (m_X3_layPower hW n _ W2 _ (by omega) hc7 hH2) ⟨by first | exact Nat.le_of_ble_eq_true rfl | (dsimp only [rmE]; omega), by first | exact Nat.le_of_ble_eq_true rfl | (dsimp only [rmE]; omega)⟩ (by first | exact Nat.le_of_ble_eq_true rfl | (dsimp only [rmE]; omega)) (by first | exact Nat.le_of_ble_eq_true rfl | (dsimp only [rmE]; omega)) (by first | exact Nat.le_of_ble_eq_true rfl | (dsimp only [rmE]; omega)) (goI fun r107 G107 h107 => ?_)
        obtain ⟨rfl, hH3, hf3⟩ := h107
        obtain ⟨hme3, -, -⟩ := hH3.2.2.2.2.2.2.1 k hk
        have hnt : lpW S W2 ((chL S k).getD i 0 : Nat) (k : Int) = W2 k := if_neg (by rw [thr_lt hW.1.1 (by omega) (by omega)]; decide)
        refine gw_iadd (q := 111) hc dX3_layPower_110 rfl ?_
        refine gw_put (q := 114) hc dX3_layPower_111 rfl cE_ME 4 (by decide) q419 (fun _ h => h) rfl hme3 ⟨rfl, rfl⟩ rfl (by first | exact Nat.le_of_ble_eq_true rfl | (dsimp only [rmE]; omega)) ?_
        refine gw_G (show _ = gup G107 (A (10 + k)) (mtC A S (fu (lpW S W2 ((chL S k).getD i 0 : Nat)) (k : Int) (W2 k + pw S ((chL S k).getD i 0 : Nat))) k) from by unfold mtC; simp only [fu_s]; rw [hnt]; rfl) ?_
        refine gw_iinc (q := 117) hc dX3_layPower_114 rfl xg_1 xs_1 (by decide) (n2p xg_0 rfl) ?_
        refine gw_goto (q := 76) hc dX3_layPower_117 (by decide) ?_
        exact ih76 (i + 1, fu (lpW S W2 ((chL S k).getD i 0 : Nat)) (k : Int) (W2 k + pw S ((chL S k).getD i 0 : Nat)), gup G107 (A (10 + k)) (mtC A S (fu (lpW S W2 ((chL S k).getD i 0 : Nat)) (k : Int) (W2 k + pw S ((chL S k).getD i 0 : Nat))) k)) (by dsimp only; exact ⟨by omega, hs_upM hH3 hk (fun _ _ _ _ _ => rfl) (fun q _ hq => fu_n (by omega)), frM_gup (frM_tr hI76.2.2.1 hf3) (hH.2.1 _ (us_m hk)) (by omega), lpS_s hW.1.1 hI76.2.2.2 (by omega) hk (by omega)⟩) (by dsimp only; omega)
    · obtain ⟨cap, f, hA1, hf1, hb1, hfi⟩ := alP_get hLa (i := (i : Int)) (by omega) (by omega)
      have hmem := gd_mem (L := lsL S k) (i := i) (by omega)
      obtain ⟨hj, hjk⟩ := ls_mem.mp hmem
      have hlo := hHi.2.2.2.2.2.2.2 _ hj
      have hll := rw_l hW _ (by omega) hj
      refine gw_aload_n (q := 21) hc dX3_layPower_20 rfl rfl xg_0 ?_
      refine gw_dup (q := 22) hc dX3_layPower_21 rfl rfl ?_
      refine gw_get (q := 25) hc dX3_layPower_22 rfl cE_ME 4 (by decide) q419 (fun _ h => h) hme rfl ?_
      refine gw_aload_n (q := 26) hc dX3_layPower_25 rfl rfl xg_0 ?_
      refine gw_get (q := 29) hc dX3_layPower_26 rfl cE_ME 3 (by decide) q417 (fun _ h => h) hme rfl ?_
      refine gw_iload_n (q := 30) hc dX3_layPower_29 rfl rfl xg_1 ?_
      refine gw_callF (q := 35) (bc' := 0) (bs' := 0) (As := [_]) hc dX3_layPower_30 rfl cE_AL q652 mf_J2_get_7 rfl rfl (m_J2_get hLc hA1 (by omega) (by omega) hfi) (rc_o hc cE_AL hLc) ⟨by first | exact Nat.le_of_ble_eq_true rfl | (dsimp only [rmE]; omega), by first | exact Nat.le_of_ble_eq_true rfl | (dsimp only [rmE]; omega)⟩ (by first | exact Nat.le_of_ble_eq_true rfl | (dsimp only [rmE]; omega)) (by first | exact Nat.le_of_ble_eq_true rfl | (dsimp only [rmE]; omega)) (by first | exact Nat.le_of_ble_eq_true rfl | (dsimp only [rmE]; omega)) (goA fun r30 G30 h30 => ?_)
      obtain ⟨rfl, rfl⟩ := h30
      refine gw_cast (q := 38) hc dX3_layPower_35 rfl q653 (rc_o hc cE_LO hlo) ?_
      refine gw_getN (q := 41) hc dX3_layPower_38 rfl cE_LO 2 (by decide) q512 (fun _ h => h) hlo rfl ?_
      refine gw_if_eq  (q := 44) (t := 63) hc dX3_layPower_41 rfl (by decide) (by omega) (fun c41 => ?_) (fun c41 => ?_)
      · skip
        refine gw_iconst (q := 64) hc dX3_layPower_63 rfl ?_
        refine gw_iadd (q := 65) hc dX3_layPower_64 rfl ?_
        refine gw_put (q := 68) hc dX3_layPower_65 rfl cE_ME 4 (by decide) q419 (fun _ h => h) rfl hme ⟨rfl, rfl⟩ rfl (by first | exact Nat.le_of_ble_eq_true rfl | (dsimp only [rmE]; omega)) ?_
        refine gw_G (show _ = gup G (A (10 + k)) (mtC A S (fu W (k : Int) (smL (pwr S) ((lsL S k).take (i + 1)))) k) from by rw [gup_gup, smL_take (by omega), show pwr S ((lsL S k).getD i 0) = 0 from if_neg (by omega)]; unfold mtC; simp only [fu_s]; rfl) ?_
        refine gw_iinc (q := 71) hc dX3_layPower_68 rfl xg_1 xs_1 (by decide) (n2p xg_0 rfl) ?_
        refine gw_goto (q := 7) hc dX3_layPower_71 (by decide) ?_
        exact ih7 (i + 1) (by omega) (by omega)
      · skip
        refine gw_aload_n (q := 45) hc dX3_layPower_44 rfl rfl xg_0 ?_
        refine gw_get (q := 48) hc dX3_layPower_45 rfl cE_ME 3 (by decide) q417 (fun _ h => h) hme rfl ?_
        refine gw_iload_n (q := 49) hc dX3_layPower_48 rfl rfl xg_1 ?_
        refine gw_callF (q := 54) (bc' := 0) (bs' := 0) (As := [_]) hc dX3_layPower_49 rfl cE_AL q652 mf_J2_get_7 rfl rfl (m_J2_get hLc hA1 (by omega) (by omega) hfi) (rc_o hc cE_AL hLc) ⟨by first | exact Nat.le_of_ble_eq_true rfl | (dsimp only [rmE]; omega), by first | exact Nat.le_of_ble_eq_true rfl | (dsimp only [rmE]; omega)⟩ (by first | exact Nat.le_of_ble_eq_true rfl | (dsimp only [rmE]; omega)) (by first | exact Nat.le_of_ble_eq_true rfl | (dsimp only [rmE]; omega)) (by first | exact Nat.le_of_ble_eq_true rfl | (dsimp only [rmE]; omega)) (goA fun r49 G49 h49 => ?_)
        obtain ⟨rfl, rfl⟩ := h49
        refine gw_cast (q := 57) hc dX3_layPower_54 rfl q653 (rc_o hc cE_LO hlo) ?_
        refine gw_getN (q := 60) hc dX3_layPower_57 rfl cE_LO 0 (by decide) q506 (fun _ h => h) hlo rfl ?_
        refine gw_goto (q := 64) hc dX3_layPower_60 (by decide) ?_
        refine gw_iadd (q := 65) hc dX3_layPower_64 rfl ?_
        refine gw_put (q := 68) hc dX3_layPower_65 rfl cE_ME 4 (by decide) q419 (fun _ h => h) rfl hme ⟨rfl, rfl⟩ rfl (by first | exact Nat.le_of_ble_eq_true rfl | (dsimp only [rmE]; omega)) ?_
        refine gw_G (show _ = gup G (A (10 + k)) (mtC A S (fu W (k : Int) (smL (pwr S) ((lsL S k).take (i + 1)))) k) from by rw [gup_gup, smL_take (by omega), show pwr S ((lsL S k).getD i 0) = S (102 + 3 * (((lsL S k).getD i 0 : Nat) : Int) + 1) from if_pos (by omega)]; unfold mtC; simp only [fu_s]; rfl) ?_
        refine gw_iinc (q := 71) hc dX3_layPower_68 rfl xg_1 xs_1 (by decide) (n2p xg_0 rfl) ?_
        refine gw_goto (q := 7) hc dX3_layPower_71 (by decide) ?_
        exact ih7 (i + 1) (by omega) (by omega)

