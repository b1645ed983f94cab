/-! ===== THE CLASS: a house's copy ===== -/
set_option maxRecDepth 100000
/-- a row cut: k meters, n loads, no time, no seals -/
def cutF (S : Int → Int) (k n : Int) : Int → Int := fun i => if i = 6 then 0 else if i = 7 then k else if i = 8 then n else if i = 10 then 0 else S i
/-- the row behind the meter k's making -/
def adC (S : Int → Int) (k : Int) : Int → Int := fun i => if 11 + 13 * k + 1 ≤ i ∧ i ≤ 11 + 13 * k + 12 then (if i = 11 + 13 * k + 2 then 100 else 0) else cutF S (k + 1) 0 i
section CUT
variable {S : Int → Int} {k n : Int}
theorem cut_7 : cutF S k n 7 = k := by unfold cutF; rw [if_neg (by omega), if_pos rfl]
theorem cut_8 : cutF S k n 8 = n := by unfold cutF; rw [if_neg (by omega), if_neg (by omega), if_pos rfl]
theorem cut_o {i : Int} (h : i ≠ 6 ∧ i ≠ 7 ∧ i ≠ 8 ∧ i ≠ 10) : cutF S k n i = S i := by unfold cutF; rw [if_neg h.1, if_neg h.2.1, if_neg h.2.2.1, if_neg h.2.2.2]
theorem cut_k {k' n' : Int} {i : Int} (h7 : i ≠ 7) (h8 : i ≠ 8) : cutF S k n i = cutF S k' n' i := by
  unfold cutF
  by_cases e6 : i = 6
  · rw [if_pos e6, if_pos e6]
  · rw [if_neg e6, if_neg e6, if_neg h7, if_neg h7, if_neg h8, if_neg h8]
theorem cut_T (h : treeW S) (hk : 0 ≤ k ∧ k ≤ S 7) : treeW (cutF S k n) := ⟨by rw [cut_7]; have := h.1; omega, fun j h0 h1 => by
  rw [cut_7] at h1
  rw [cut_o (by omega)]
  exact h.2 j h0 (by omega)⟩
theorem cut_L0 : loadW (cutF S k 0) := ⟨by rw [cut_8]; omega, fun j h0 h1 => by rw [cut_8] at h1; omega⟩
theorem cut_L (h : loadW S) (hn : 0 ≤ n ∧ n ≤ S 8) : loadW (cutF S (S 7) n) := ⟨by rw [cut_8]; have := h.1; omega, fun j h0 h1 => by
  rw [cut_8] at h1
  rw [cut_o (by omega), cut_7, cut_o (by omega), cut_o (by omega)]
  exact h.2 j h0 (by omega)⟩
theorem adC_7 : adC S k 7 = if 0 ≤ k then k + 1 else adC S k 7 := by
  split
  · unfold adC; rw [if_neg (by omega), cut_7]
  · rfl
theorem adC_o {i : Int} (h : i < 11 + 13 * k + 1 ∨ 11 + 13 * k + 13 ≤ i) : adC S k i = cutF S (k + 1) 0 i := by unfold adC; rw [if_neg (by omega)]
theorem adC_n {j : Int} (h : 1 ≤ j ∧ j ≤ 12) : adC S k (11 + 13 * k + j) = if j = 2 then 100 else 0 := by
  unfold adC
  rw [if_pos (by omega)]
  by_cases e : j = 2
  · rw [if_pos (by omega), if_pos e]
  · rw [if_neg (by omega), if_neg e]
end CUT
section TGR
variable {D : va_G} {X tg tg1 : Nat → Nat} {hid : Nat} {A : Nat → Nat} {S W : Int → Int} {G G1 : gM}
/-- a cell that was not there changes -/
theorem tgR_up {a : Nat} {e : va_E} (h : tgR tg tg1 hid G G1) (hn : G a = none) (h1 : G1 a ≠ none) : tgR tg tg1 hid G (gup G1 a e) :=
  ⟨h.1, fun q f he a1 a2 => by rw [gup_n (ne_none he hn)]; exact h.2.1 q f he a1 a2, fun q hq hq' => h.2.2.1 q hq (fun z => by
    by_cases e : q = a
    · rw [e] at z; exact h1 z
    · rw [gup_n e] at hq'; exact hq' z), h.2.2.2.1, fun q hq => gup_nn (h.2.2.2.2 q hq)⟩
/-- a cell of the house changes -/
theorem tgR_upH {a : Nat} {e : va_E} (h : tgR tg tg1 hid G G1) (ht : tg1 a / 100 = hid) (h1 : G1 a ≠ none) : tgR tg tg1 hid G (gup G1 a e) :=
  ⟨h.1, fun q f he a1 a2 => by
    rw [gup_n (fun z => by
      have := h.1 q (by rw [he]; exact fun z => by cases z) a2
      exact a1 (by rw [← this, z]; exact ht))]
    exact h.2.1 q f he a1 a2, fun q hq hq' => h.2.2.1 q hq (fun z => by
    by_cases e : q = a
    · rw [e] at z; exact h1 z
    · rw [gup_n e] at hq'; exact hq' z), h.2.2.2.1, fun q hq => gup_nn (h.2.2.2.2 q hq)⟩
/-- a new cell, tagged t -/
theorem tgR_new {r t : Nat} {e : va_E} (hr : G r = none) (ht : t / 100 = hid ∨ 998 ≤ t / 100) : tgR tg (fun q => if q = r then t else tg q) hid G (gup G r e) :=
  ⟨fun q hq _ => if_neg (fun z => hq (by rw [z]; exact hr)), fun q f he _ _ => by rw [gup_n (ne_none he hr)]; exact he, fun q hq hq' => by
    by_cases z : q = r
    · show (if q = r then t else tg q) / 100 = hid ∨ 998 ≤ (if q = r then t else tg q) / 100
      rw [if_pos z]; exact ht
    · rw [gup_n z] at hq'; exact absurd hq hq', fun q hq h9 => by
    right
    show (if q = r then t else tg q) / 100 = 999
    rw [if_neg (fun z => hq (by rw [z]; exact hr))]; exact h9, fun q hq => gup_nn hq⟩
theorem hs_nw {r t : Nat} {e : va_E} (h : hsR D X tg hid A S W G) (hr : G r = none) : hsR D X (fun q => if q = r then t else tg q) hid A S W (gup G r e) :=
  hs_mv h (fun q f hf _ => ⟨by rw [gup_n (ne_none hf hr)]; exact hf, if_neg (ne_none hf hr)⟩)
theorem hs_it {a : Nat} {e : va_E} (h : hsR D X tg hid A S W G) (ht : tg a / 100 ≠ hid) : hsR D X tg hid A S W (gup G a e) :=
  hs_mv h (fun q f hf hq => ⟨by rw [gup_n (fun z => ht (by rw [← z]; exact hq))]; exact hf, rfl⟩)
theorem hs_zero {B : Nat → Nat} {g : Int → Int} (h : hsR D X tg hid B row0 W G) (hg : ∀ i, 0 ≤ i → i ≤ 5 → g i = S i) : hsR D X tg hid B (cutF S 0 0) W (gup G (B 1) (iA D 6 g)) := by
  have e7 : row0 7 = 0 := rfl
  have e8 : row0 8 = 0 := rfl
  have ne : B 0 ≠ B 1 := hs_ne h us_0 us_1 (by omega)
  refine hs_gen h ⟨by rw [cut_7, e7], by rw [cut_8, e8], fun k hk => by omega, fun j hj => by omega⟩ ?_ ?_ ⟨g, gup_s, fun i a b => by rw [hg i a b, cut_o (by omega)]⟩ (fun k hk => by omega) (fun j hj => by omega)
  · intro q e r he ht hr
    rw [gup_n (fun z => by rw [z, h.2.1 _ us_1] at ht; omega)]
    exact he
  · rw [gup_n ne, h.2.2.1]
    rfl
/-- a meter that became the old one -/
theorem cp_cell {B : Nat → Nat} {k : Nat} : mtC B (cutF S ((k : Int) + 1) 0) W k = mtO k (thV B (adC S k) k) (B (20 + k)) (B (40 + k)) (W k) (S (11 + 13 * (k : Int) + 1)) (S (11 + 13 * (k : Int) + 2)) (S (11 + 13 * (k : Int) + 9)) (S (11 + 13 * (k : Int) + 3)) (S (11 + 13 * (k : Int) + 4)) (S (11 + 13 * (k : Int) + 11)) (S (11 + 13 * (k : Int) + 12)) (S (11 + 13 * (k : Int) + 8)) (S (11 + 13 * (k : Int) + 10)) (S (11 + 13 * (k : Int) + 6)) (S (11 + 13 * (k : Int) + 7)) (S (11 + 13 * (k : Int) + 5)) := by
  unfold mtC thV
  rw [adC_o (by omega), cut_o (by omega), cut_o (by omega), cut_o (by omega), cut_o (by omega), cut_o (by omega), cut_o (by omega), cut_o (by omega), cut_o (by omega), cut_o (by omega), cut_o (by omega), cut_o (by omega), cut_o (by omega), cut_o (by omega)]
theorem cp_load {n : Nat} {k m : Int} : loC (cutF S k m) n = loC S n := loC_E (fun i a b => cut_o (by omega))
end TGR

theorem cut_k7 {S : Int → Int} {k i : Int} (h : i ≠ 7) : cutF S (k + 1) 0 i = cutF S k 0 i := by
  by_cases e : i = 8
  · rw [e, cut_8, cut_8]
  · exact cut_k h e
theorem cut_k8 {S : Int → Int} {k n i : Int} (h : i ≠ 8) : cutF S k (n + 1) i = cutF S k n i := by
  by_cases e : i = 7
  · rw [e, cut_7, cut_7]
  · exact cut_k e h
theorem mw_X1_init : mI yX1_init cX1_init 1 0 := ⟨⟨rfl, by decide +kernel, by decide +kernel, by decide +kernel⟩, q109, q74, q110⟩
theorem mf_J2_iterator_7 : mF "java/util/ArrayList" ⟨"java/util/List", "iterator", "()Ljava/util/Iterator;"⟩ yJ2_iterator cJ2_iterator 1 (some (FieldType.object "java/util/Iterator")) 0 := ⟨⟨by decide +kernel, by decide +kernel, by decide +kernel⟩, q274, q276, q77, q278, q273, q272, q277, q275, q235, by decide +kernel⟩
theorem mf_J9_hasNext_9 : mF "java/util/ArrayList$Itr" ⟨"java/util/Iterator", "hasNext", "()Z"⟩ yJ9_hasNext cJ9_hasNext 1 (some FieldType.boolean) 0 := ⟨⟨by decide +kernel, by decide +kernel, by decide +kernel⟩, q303, q305, q86, q307, q301, q300, q306, q304, q302, by decide +kernel⟩
theorem mf_J9_next_9 : mF "java/util/ArrayList$Itr" ⟨"java/util/Iterator", "next", "()Ljava/lang/Object;"⟩ yJ9_next cJ9_next 3 (some (FieldType.object "java/lang/Object")) 0 := ⟨⟨by decide +kernel, by decide +kernel, by decide +kernel⟩, q312, q314, q86, q316, q311, q310, q315, q313, q302, by decide +kernel⟩
theorem mw_X4_copy : mV "EnergyDiscs$Load" yX4_copy cX4_copy 2 (some (FieldType.object "EnergyDiscs$Load")) 0 := ⟨⟨rfl, by decide +kernel, by decide +kernel, by decide +kernel⟩, q496, q497, q91, q498⟩
theorem mw_X1_addLoad : mV "EnergyDiscs$House" yX1_addLoad cX1_addLoad 2 (some FieldType.int) 1 := ⟨⟨rfl, by decide +kernel, by decide +kernel, by decide +kernel⟩, q522, q523, q74, q524⟩
theorem mw_X3_become : mV "EnergyDiscs$Meter" yX3_become cX3_become 2 none 1 := ⟨⟨rfl, by decide +kernel, by decide +kernel, by decide +kernel⟩, q491, q492, q87, q493⟩
set_option maxHeartbeats 4000000 in
theorem m_X1_copy {l : Launch} {D : va_G} {X : Nat → Nat} {b0 : Nat} {tg : Nat → Nat} {hid nid : Nat} {A : Nat → Nat} {S W : Int → Int} {G : gM} (hH : hsR D X tg hid A S W G) (hT : treeW S) (hL : loadW S) (hp0 : 0 < S 7 → S 11 = -1) (hbr : ∀ k : Nat, (k : Int) < S 7 → S (11 + 13 * (k : Int) + 7) = 0 ∨ S (11 + 13 * (k : Int) + 7) = 1) (hne : hid ≠ nid) (hh : hid < 990) (hn9 : nid < 990) : gMet l D X b0 yX1_copy cX1_copy 5 (some (FieldType.object "EnergyDiscs$House")) (rmE 9 79 2660) [.ref (A 0)] G (pA fun r G' => ∃ (tg' B : Nat → Nat) (W' : Int → Int), r = B 0 ∧ tgR tg tg' nid G G' ∧ hsR D X tg' nid B S W' G') := by
  refine gm_start (own := "EnergyDiscs$House") (lv := [some (.ref (A 0)), none, none, none, none]) (by decide +kernel) rfl (Nat.le_of_ble_eq_true rfl) rfl (fun p_ e_ s_ m_ args_ below_ meth_ c_ hc hnm => ?_)
  have h7 := hT.1
  have h8 := hL.1
  obtain ⟨mcm, arm, hmcm, hMc, hMa, harm⟩ := alR_P hH.2.2.2.2.1
  obtain ⟨mcl, arl, hmcl, hLc, hLa, harl⟩ := alR_P hH.2.2.2.2.2.1
  refine gw_x0 hc (fun hX0 => ?_)
  obtain ⟨gs, hgs, hgs2⟩ := hH.2.2.2.1
  have tgA : ∀ r, usd S r → tg (A r) / 100 = hid := fun r hr => by have := hH.2.1 r hr; have := us_lt hH hr; omega
  have tarm : ∀ e, G arm = some e → tg arm / 100 = hid := fun e he => by
    rcases harm with h | h
    · rw [h, hX0] at he; cases he
    · omega
  have tarl : ∀ e, G arl = some e → tg arl / 100 = hid := fun e he => by
    rcases harl with h | h
    · rw [h, hX0] at he; cases he
    · omega
  have keep : ∀ (tg1 : Nat → Nat) (G1 : gM), tgR tg tg1 nid G G1 → ∀ q e, G q = some e → tg q / 100 = hid → G1 q = some e := fun tg1 G1 ht q e he hq => ht.2.1 q e he (by omega) (by omega)
  have ktg : ∀ (tg1 : Nat → Nat) (G1 : gM), tgR tg tg1 nid G G1 → ∀ q e, G q = some e → tg q / 100 = hid → tg1 q / 100 = hid := fun tg1 G1 ht q e he hq => by rw [ht.1 q (by rw [he]; exact fun z => by cases z) (by omega)]; exact hq
  refine gw_new (q := 3) (fs := [.null, .null, .null, .int (iI 0), .int (iI 0)]) hc dX1_copy_0 rfl cE_HO q267 q107 q74 (fun j hj => by rcases (by omega : j = 0 ∨ j = 1 ∨ j = 2 ∨ j = 3 ∨ j = 4) with rfl | rfl | rfl | rfl | rfl <;> rfl) (bc' := 78) (bs' := 2655) (Nat.le_of_ble_eq_true rfl) (Nat.le_of_ble_eq_true rfl) (fun x hnx hbx => ?_)
  refine gw_dup (q := 4) hc dX1_copy_3 rfl rfl ?_
  refine gw_callI (q := 7) (bc' := 75) (bs' := 2643) (As := []) hc dX1_copy_4 rfl q268 mw_X1_init rfl rfl (m_X1_init gup_s) ⟨Nat.le_of_ble_eq_true rfl, Nat.le_of_ble_eq_true rfl⟩ (Nat.le_of_ble_eq_true rfl) (Nat.le_of_ble_eq_true rfl) (Nat.le_of_ble_eq_true rfl) (goV fun G4 h4 => ?_)
  obtain ⟨x1, y1, z1, g, ⟨n1, n2, n3⟩, hd, hg, hG4⟩ := h4
  obtain ⟨tg1, ht1, hO1⟩ := hs_new (tg := tg) (hid := nid) (W := fun _ => 0) hnx n1 n2 n3 hd hg hG4
  have eB : x = A_ho x x1 y1 z1 0 := (if_pos rfl : A_ho x x1 y1 z1 0 = x).symm
  generalize A_ho x x1 y1 z1 = B at hO1 eB
  subst eB
  obtain ⟨gd, hgd, -⟩ := hO1.2.2.2.1
  have hgs4 := keep _ _ ht1 _ _ hgs (tgA 1 us_1)
  have hHo4 := keep _ _ ht1 _ _ hH.2.2.1 (tgA 0 us_0)
  refine gw_astore_n (q := 8) hc dX1_copy_7 rfl rfl xs_1 (by decide) (n2p xg_0 rfl) ?_
  refine gw_aload_n (q := 9) hc dX1_copy_8 rfl rfl xg_0 ?_
  refine gw_get (q := 12) hc dX1_copy_9 rfl cE_HO 0 (by decide) q142 (fun _ h => h) hHo4 rfl ?_
  refine gw_iconst (q := 13) hc dX1_copy_12 rfl ?_
  refine gw_aload_n (q := 14) hc dX1_copy_13 rfl rfl xg_1 ?_
  refine gw_get (q := 17) hc dX1_copy_14 rfl cE_HO 0 (by decide) q142 (fun _ h => h) hO1.2.2.1 rfl ?_
  refine gw_iconst (q := 18) hc dX1_copy_17 rfl ?_
  refine gw_aload_n (q := 19) hc dX1_copy_18 rfl rfl xg_0 ?_
  refine gw_get (q := 22) hc dX1_copy_19 rfl cE_HO 0 (by decide) q142 (fun _ h => h) hHo4 rfl ?_
  refine gw_alen (q := 23) hc (0) dX1_copy_22 rfl hgs4 rfl ?_
  refine gw_copyi (q := 26) hc dX1_copy_23 rfl q269 q262 q261 q85 hgs4 hgd ⟨by omega, by omega⟩ ⟨by omega, by omega⟩ (by omega) ⟨by omega, by omega⟩  (Nat.le_of_ble_eq_true rfl) (Nat.le_of_ble_eq_true rfl) ?_
  have hO2 := hs_zero (S := S) (g := cpF gs gd 0 0 6) hO1 (fun i a b => by show (if 0 ≤ i ∧ i < 0 + 6 then gs (0 + (i - 0)) else gd i) = S i; rw [if_pos (by omega), show (0 : Int) + (i - 0) = i by omega]; exact hgs2 i a b)
  have ht2 := tgR_upH (e := iA D 6 (cpF gs gd 0 0 6)) ht1 (by rw [hO1.2.1 1 us_1]; omega) (by rw [hgd]; exact fun z => by cases z)
  obtain ⟨G2, hG2⟩ : ∃ G2, G2 = gup G4 (B 1) (iA D 6 (cpF gs gd 0 0 6)) := ⟨_, rfl⟩
  rw [← hG2] at hO2 ht2
  refine gw_G (show _ = G2 from hG2.symm ▸ rfl) ?_
  have hMc2 := keep _ _ ht2 _ _ hMc (tgA 2 us_2)
  have hHo2 := keep _ _ ht2 _ _ hH.2.2.1 (tgA 0 us_0)
  refine gw_aload_n (q := 27) hc dX1_copy_26 rfl rfl xg_0 ?_
  refine gw_get (q := 30) hc dX1_copy_27 rfl cE_HO 1 (by decide) q144 (fun _ h => h) hHo2 rfl ?_
  refine gw_callF (q := 35) (bc' := 74) (bs' := 2639) (As := []) hc dX1_copy_30 rfl cE_AL q271 mf_J2_iterator_7 rfl rfl (m_J2_iterator hMc2) (rc_o hc cE_AL hMc2) ⟨Nat.le_of_ble_eq_true rfl, Nat.le_of_ble_eq_true rfl⟩ (Nat.le_of_ble_eq_true rfl) (Nat.le_of_ble_eq_true rfl) (Nat.le_of_ble_eq_true rfl) (goA fun r30 G30 h30 => ?_)
  obtain ⟨hni, hgg⟩ := h30
  rw [hgg]
  have ht3 := tgR_tr (by omega) ht2 (tgR_new (t := 99800) (e := oE 9 [.int (iI 0), .int (iI (-1)), .int (iI mcm), .ref (A 2)]) hni (Or.inr (by omega)))
  have hO3 := hs_nw (t := 99800) (e := oE 9 [.int (iI 0), .int (iI (-1)), .int (iI mcm), .ref (A 2)]) hO2 hni
  have hni0 : G r30 = none := Classical.byContradiction fun z => ht2.2.2.2.2 _ z hni
  refine gw_astore_n (q := 36) hc dX1_copy_35 rfl rfl xs_2 (by decide) (n2p xg_1 rfl) ?_
  obtain ⟨o, ho⟩ : ∃ o, o = B 0 := ⟨_, rfl⟩
  rw [← ho]
  refine gw_lessB (bc' := 72) (bs' := 2633) (Nat.le_of_ble_eq_true rfl) (Nat.le_of_ble_eq_true rfl) ?_
  refine gw_loopB (σ := Nat × gM × (Nat → Nat) × (Nat → Nat) × (Int → Int) × Int) (fun x => (x.1 : Int) ≤ S 7 ∧ tgR tg x.2.2.1 nid G x.2.1 ∧ hsR D X x.2.2.1 nid x.2.2.2.1 (cutF S (x.1 : Int) 0) x.2.2.2.2.1 x.2.1 ∧ x.2.1 r30 = some (oE 9 [.int (iI (x.1 : Int)), .int (iI x.2.2.2.2.2), .int (iI mcm), .ref (A 2)]) ∧ x.2.2.1 r30 = 99800 ∧ x.2.2.2.1 0 = o) (fun x => 7 - x.1) (fun x => x.2.1) (fun x => [some (.ref (A 0)), some (.ref o), some (.ref r30), none, none]) (fun x => 5 * (7 - x.1) + 37) (fun x => 151 * (7 - x.1) + 1576) ?_ ⟨0, _, _, B, _, _⟩ ⟨by omega, ht3, hO3, gup_s, if_pos rfl, ho.symm⟩
  rintro ⟨k, G1, tg1, B1, W1, lr⟩ hI36 ih36
  try dsimp only at hI36 ih36 ⊢
  obtain ⟨hk, ht, hO, hIt, hIg, hB0⟩ := hI36
  subst hB0
  have hHs := hs_tg hH ht hne (by omega)
  have hMc1 := keep _ _ ht _ _ hMc (tgA 2 us_2)
  have hMa1 := alP_x hMa (fun e he => keep _ _ ht _ _ he (tarm _ he))
  refine gw_aload_n (q := 37) hc dX1_copy_36 rfl rfl xg_2 ?_
  refine gw_callF (q := 42) (bc' := (5 * (7 - k) + 37 + 0)) (bs' := (151 * (7 - k) + 1576 + 0)) (As := []) hc dX1_copy_37 rfl cE_IT q299 mf_J9_hasNext_9 rfl rfl (m_J9_hasNext hMc1 hIt ⟨⟨by omega, by omega⟩, ⟨by omega, by omega⟩⟩) (rc_o hc cE_IT hIt) ⟨Nat.le_of_ble_eq_true rfl, Nat.le_of_ble_eq_true rfl⟩ (Nat.le_of_ble_eq_true rfl) (by dsimp only [rmE]; omega) (by dsimp only [rmE]; omega) (goI fun r37 G37 h37 => ?_)
  obtain ⟨b37, hgg⟩ := h37
  rw [hgg]
  refine gw_if_eq  (q := 45) (t := 89) hc dX1_copy_42 rfl (by decide) (by omega) (fun c42 => ?_) (fun c42 => ?_)
  · skip
    have hkE : (k : Int) = S 7 := by omega
    rw [hkE] at hO
    have hLc0 := keep _ _ ht _ _ hLc (tgA 4 us_4)
    refine gw_lessB (bc' := 37) (bs' := 1576) (by omega) (by omega) ?_
    refine gw_aload_n (q := 90) hc dX1_copy_89 rfl rfl xg_0 ?_
    refine gw_get (q := 93) hc dX1_copy_90 rfl cE_HO 2 (by decide) q146 (fun _ h => h) (keep _ _ ht _ _ hH.2.2.1 (tgA 0 us_0)) rfl ?_
    refine gw_callF (q := 98) (bc' := 36) (bs' := 1572) (As := []) hc dX1_copy_93 rfl cE_AL q271 mf_J2_iterator_7 rfl rfl (m_J2_iterator hLc0) (rc_o hc cE_AL hLc0) ⟨Nat.le_of_ble_eq_true rfl, Nat.le_of_ble_eq_true rfl⟩ (Nat.le_of_ble_eq_true rfl) (Nat.le_of_ble_eq_true rfl) (Nat.le_of_ble_eq_true rfl) (goA fun r93 G93 h93 => ?_)
    obtain ⟨hnj, hgg⟩ := h93
    rw [hgg]
    have htB := tgR_tr (by omega) ht (tgR_new (t := 99801) (e := oE 9 [.int (iI 0), .int (iI (-1)), .int (iI mcl), .ref (A 4)]) hnj (Or.inr (by omega)))
    have hOB := hs_nw (t := 99801) (e := oE 9 [.int (iI 0), .int (iI (-1)), .int (iI mcl), .ref (A 4)]) hO hnj
    have hnj0 : G r93 = none := Classical.byContradiction fun z => ht.2.2.2.2 _ z hnj
    obtain ⟨o, ho⟩ : ∃ o, o = B1 0 := ⟨_, rfl⟩
    rw [← ho]
    refine gw_astore_n (q := 99) hc dX1_copy_98 rfl rfl xs_2 (by decide) (n2p xg_1 rfl) ?_
    refine gw_lessB (bc' := 36) (bs' := 1572) (Nat.le_of_ble_eq_true rfl) (Nat.le_of_ble_eq_true rfl) ?_
    refine gw_loopB (σ := Nat × gM × (Nat → Nat) × (Nat → Nat) × (Int → Int) × Int) (fun x => (x.1 : Int) ≤ S 8 ∧ tgR tg x.2.2.1 nid G x.2.1 ∧ hsR D X x.2.2.1 nid x.2.2.2.1 (cutF S (S 7) (x.1 : Int)) x.2.2.2.2.1 x.2.1 ∧ x.2.1 r93 = some (oE 9 [.int (iI (x.1 : Int)), .int (iI x.2.2.2.2.2), .int (iI mcl), .ref (A 4)]) ∧ x.2.2.1 r93 = 99801 ∧ x.2.2.2.1 0 = o) (fun x => 12 - x.1) (fun x => x.2.1) (fun x => [some (.ref (A 0)), some (.ref o), some (.ref r93), none, none]) (fun x => 3 * (12 - x.1) + 0) (fun x => 131 * (12 - x.1) + 0) ?_ ⟨0, _, _, B1, W1, _⟩ ⟨by omega, htB, hOB, gup_s, if_pos rfl, ho.symm⟩
    rintro ⟨n, G1, tg1, B1, W1, lr⟩ hI99 ih99
    try dsimp only at hI99 ih99 ⊢
    obtain ⟨hk, ht, hO, hIt, hIg, hB0⟩ := hI99
    subst hB0
    have hHs := hs_tg hH ht hne (by omega)
    have hLc1 := keep _ _ ht _ _ hLc (tgA 4 us_4)
    have hLa1 := alP_x hLa (fun e he => keep _ _ ht _ _ he (tarl _ he))
    refine gw_aload_n (q := 100) hc dX1_copy_99 rfl rfl xg_2 ?_
    refine gw_callF (q := 105) (bc' := (3 * (12 - n) + 0 + 0)) (bs' := (131 * (12 - n) + 0 + 0)) (As := []) hc dX1_copy_100 rfl cE_IT q299 mf_J9_hasNext_9 rfl rfl (m_J9_hasNext hLc1 hIt ⟨⟨by omega, by omega⟩, ⟨by omega, by omega⟩⟩) (rc_o hc cE_IT hIt) ⟨Nat.le_of_ble_eq_true rfl, Nat.le_of_ble_eq_true rfl⟩ (Nat.le_of_ble_eq_true rfl) (by dsimp only [rmE]; omega) (by dsimp only [rmE]; omega) (goI fun r100 G100 h100 => ?_)
    obtain ⟨b100, hgg⟩ := h100
    rw [hgg]
    refine gw_if_eq  (q := 108) (t := 130) hc dX1_copy_105 rfl (by decide) (by omega) (fun c105 => ?_) (fun c105 => ?_)
    · skip
      have hnE : (n : Int) = S 8 := by omega
      rw [hnE] at hO
      have hne2 : A 0 ≠ B1 0 := fun z => by have a := hHs.2.1 0 us_0; have b := hO.2.1 0 us_0; rw [z] at a; omega
      refine gw_lessB (bc' := 0) (bs' := 0) (by omega) (by omega) ?_
      refine gw_aload_n (q := 131) hc dX1_copy_130 rfl rfl xg_1 ?_
      refine gw_aload_n (q := 132) hc dX1_copy_131 rfl rfl xg_0 ?_
      refine gw_get (q := 135) hc dX1_copy_132 rfl cE_HO 3 (by decide) q148 (fun _ h => h) (keep _ _ ht _ _ hH.2.2.1 (tgA 0 us_0)) rfl ?_
      refine gw_put (q := 138) hc dX1_copy_135 rfl cE_HO 3 (by decide) q148 (fun _ h => h) rfl hO.2.2.1 ⟨rfl, rfl⟩ rfl (Nat.le_of_ble_eq_true rfl) ?_
      have hO5 := hs_upH (S' := fu (cutF S (S 7) (S 8)) 6 (S 6)) hO (fun i a b c d e => fu_n c)
      have ht5 := tgR_upH (a := B1 0) (e := hoO B1 (fu (cutF S (S 7) (S 8)) 6 (S 6))) ht (by rw [hO.2.1 0 us_0]; omega) (by rw [hO.2.2.1]; exact fun z => by cases z)
      refine gw_G (show _ = gup G1 (B1 0) (hoO B1 (fu (cutF S (S 7) (S 8)) 6 (S 6))) from by unfold hoO; rw [fu_s, fu_n (by omega)]; rfl) ?_
      refine gw_aload_n (q := 139) hc dX1_copy_138 rfl rfl xg_1 ?_
      refine gw_aload_n (q := 140) hc dX1_copy_139 rfl rfl xg_0 ?_
      refine gw_get (q := 143) hc dX1_copy_140 rfl cE_HO 4 (by decide) q150 (fun _ h => h) ((gup_n hne2).trans (keep _ _ ht _ _ hH.2.2.1 (tgA 0 us_0))) rfl ?_
      refine gw_put (q := 146) hc dX1_copy_143 rfl cE_HO 4 (by decide) q150 (fun _ h => h) rfl gup_s ⟨rfl, rfl⟩ rfl (Nat.le_of_ble_eq_true rfl) ?_
      have hO6 := hs_upH (S' := fu (fu (cutF S (S 7) (S 8)) 6 (S 6)) 10 (S 10)) hO5 (fun i a b c d e => fu_n e)
      have ht6 := tgR_upH (a := B1 0) (e := hoO B1 (fu (fu (cutF S (S 7) (S 8)) 6 (S 6)) 10 (S 10))) ht5 (by rw [hO5.2.1 0 us_0]; omega) (by rw [hO5.2.2.1]; exact fun z => by cases z)
      refine gw_G (show _ = gup (gup G1 (B1 0) (hoO B1 (fu (cutF S (S 7) (S 8)) 6 (S 6)))) (B1 0) (hoO B1 (fu (fu (cutF S (S 7) (S 8)) 6 (S 6)) 10 (S 10))) from by unfold hoO; rw [fu_s, fu_s, fu_n (show (6 : Int) ≠ 10 by omega), fu_s, fu_n (show (10 : Int) ≠ 6 by omega)]; rfl) ?_
      refine gw_aload_n (q := 147) hc dX1_copy_146 rfl rfl xg_1 ?_
      exact gw_aret hc rfl (by first | exact Or.inl ⟨_, rfl⟩ | exact Or.inr ⟨_, rfl⟩) dX1_copy_147 ⟨_, rfl, ⟨tg1, B1, W1, rfl, ht6, hs_row hO6 (fun i a b c => by by_cases e10 : i = 10; (rw [e10, fu_s]); (rw [fu_n e10]; by_cases e6 : i = 6; (rw [e6, fu_s]); (rw [fu_n e6]; by_cases e7 : i = 7; (rw [e7, cut_7]); (by_cases e8 : i = 8; (rw [e8, cut_8]); exact (cut_o ⟨e6, e7, e8, e10⟩).symm))))⟩⟩
    · skip
      refine gw_lessB (bc' := 3 * ((12 - n) - 1) + 0 + 3) (bs' := 131 * ((12 - n) - 1) + 0 + 131) (by omega) (by omega) ?_
      refine gw_aload_n (q := 109) hc dX1_copy_108 rfl rfl xg_2 ?_
      refine gw_callF (q := 114) (bc' := (3 * ((12 - n) - 1) + 0 + 3)) (bs' := (131 * ((12 - n) - 1) + 0 + 131)) (As := []) hc dX1_copy_109 rfl cE_IT q309 mf_J9_next_9 rfl rfl (m_J9_next hLc1 hIt hmcl hLa1 ⟨by omega, by omega⟩) (rc_o hc cE_IT hIt) ⟨Nat.le_of_ble_eq_true rfl, Nat.le_of_ble_eq_true rfl⟩ (Nat.le_of_ble_eq_true rfl) (by dsimp only [rmE]; omega) (by dsimp only [rmE]; omega) (goA fun r109 G109 h109 => ?_)
      obtain ⟨er109, hgg⟩ := h109
      have er109b : r109 = A (60 + n) := by rw [er109]; show A (60 + (n : Int).toNat) = _; rw [Int.toNat_natCast]
      subst er109b
      rw [hgg]
      have hHt : tg1 r93 / 100 = 998 := by rw [hIg]
      have hO2 := hs_it (e := oE 9 [.int (iI ((n : Int) + 1)), .int (iI (n : Int)), .int (iI mcl), .ref (A 4)]) hO (a := r93) (by omega)
      have ht2 := tgR_up (e := oE 9 [.int (iI ((n : Int) + 1)), .int (iI (n : Int)), .int (iI mcl), .ref (A 4)]) ht hnj0 (by rw [hIt]; exact fun z => by cases z)
      have hHs2 := hs_tg hH ht2 hne (by omega)
      have hlo := hHs2.2.2.2.2.2.2.2 n (by omega)
      have hlw := hL.2 (n : Int) (by omega) (by omega)
      obtain ⟨G2, hG2⟩ : ∃ G2, G2 = gup G1 r93 (oE 9 [.int (iI ((n : Int) + 1)), .int (iI (n : Int)), .int (iI mcl), .ref (A 4)]) := ⟨_, rfl⟩
      have hIt2 : G2 r93 = some (oE 9 [.int (iI ((n : Int) + 1)), .int (iI (n : Int)), .int (iI mcl), .ref (A 4)]) := by rw [hG2]; exact gup_s
      rw [← hG2] at hO2 ht2 hHs2 hlo ⊢
      refine gw_cast (q := 117) hc dX1_copy_114 rfl q494 (rc_o hc cE_LO hlo) ?_
      refine gw_astore_n (q := 118) hc dX1_copy_117 rfl rfl xs_3 (by decide) (n2p xg_2 rfl) ?_
      refine gw_aload_n (q := 119) hc dX1_copy_118 rfl rfl xg_1 ?_
      refine gw_aload_n (q := 120) hc dX1_copy_119 rfl rfl xg_3 ?_
      refine gw_callV (q := 123) (bc' := (3 * ((12 - n) - 1) + 0 + 2)) (bs' := (131 * ((12 - n) - 1) + 0 + 128)) (As := []) hc dX1_copy_120 rfl q495 mw_X4_copy (rc_o hc cE_LO hlo) rfl rfl (m_X4_copy hlo hlw.2.2) ⟨Nat.le_of_ble_eq_true rfl, Nat.le_of_ble_eq_true rfl⟩ (Nat.le_of_ble_eq_true rfl) (by dsimp only [rmE]; omega) (by dsimp only [rmE]; omega) (goA fun r120 G120 h120 => ?_)
      obtain ⟨hnr, hgg⟩ := h120
      rw [hgg]
      have hta := tgR_new (tg := tg1) (hid := nid) (t := 99900) (e := loC S n) hnr (Or.inr (by omega))
      have hOa := hs_nw (t := 99900) (e := loC S n) hO2 hnr
      obtain ⟨tga, etga⟩ : ∃ tga : Nat → Nat, tga = fun q => if q = r120 then 99900 else tg1 q := ⟨_, rfl⟩
      rw [← etga] at hta hOa
      have htr : tga r120 / 100 = 999 := by rw [etga]; show (if r120 = r120 then 99900 else tg1 r120) / 100 = 999; rw [if_pos rfl]
      obtain ⟨mt, hmt⟩ : ∃ mt : Nat, S (102 + 3 * (n : Int)) = mt := ⟨(S (102 + 3 * (n : Int))).toNat, by omega⟩
      refine gw_callV (q := 126) (bc' := (3 * ((12 - n) - 1) + 0 + 0)) (bs' := (131 * ((12 - n) - 1) + 0 + 0)) (As := [_]) hc dX1_copy_123 rfl q521 mw_X1_addLoad (rc_o hc cE_HO hOa.2.2.1) rfl rfl (m_X1_addLoad hOa (cut_T hT (by omega)) (cut_L hL (by omega)) (S' := cutF S (S 7) ((n : Int) + 1)) (nd := n) (mt := mt) cut_8 (by rw [cut_o (by omega)]; exact hmt) (by rw [cut_7]; omega) (by rw [cp_load]; exact gup_s) htr (by omega) (by omega) (by rw [cut_8, cut_8]) (fun i _ _ e8 e9 h => cut_k8 e8)) ⟨Nat.le_of_ble_eq_true rfl, Nat.le_of_ble_eq_true rfl⟩ (Nat.le_of_ble_eq_true rfl) (by dsimp only [rmE]; omega) (by dsimp only [rmE]; omega) (goI fun r123 G123 h123 => ?_)
      obtain ⟨-, tg4, htb, hO4⟩ := h123
      have ht4 := tgR_tr (by omega) ht2 (tgR_tr (by omega) hta htb)
      have hIga : tga r93 = 99801 := by rw [hta.1 r93 (by rw [hIt2]; exact fun z => by cases z) (by omega)]; exact hIg
      have hIta : gup G2 r120 (loC S n) r93 = some (oE 9 [.int (iI ((n : Int) + 1)), .int (iI (n : Int)), .int (iI mcl), .ref (A 4)]) := hta.2.1 _ _ hIt2 (by omega) (by omega)
      have hIt4 := htb.2.1 _ _ hIta (by omega) (by omega)
      have hIg4 : tg4 r93 = 99801 := by rw [htb.1 r93 (by rw [hIta]; exact fun z => by cases z) (by omega)]; exact hIga
      refine gw_pop (q := 127) hc dX1_copy_126 rfl rfl ?_
      refine gw_goto (q := 99) hc dX1_copy_127 (by decide) ?_
      refine gw_drop (i := 3) xs_3 ?_
      refine gw_lessB (by omega) (by omega) (ih99 ⟨n + 1, G123, tg4, A_lo B1 n r120, W1, (n : Int)⟩ ⟨by push_cast; omega, ht4, hO4, hIt4, hIg4, A_lo_o (by omega)⟩ (by show 12 - (n + 1) < 12 - n; omega))
  · skip
    refine gw_lessB (bc' := 5 * ((7 - k) - 1) + 37 + 5) (bs' := 151 * ((7 - k) - 1) + 1576 + 151) (by omega) (by omega) ?_
    refine gw_aload_n (q := 46) hc dX1_copy_45 rfl rfl xg_2 ?_
    refine gw_callF (q := 51) (bc' := (5 * ((7 - k) - 1) + 37 + 5)) (bs' := (151 * ((7 - k) - 1) + 1576 + 151)) (As := []) hc dX1_copy_46 rfl cE_IT q309 mf_J9_next_9 rfl rfl (m_J9_next hMc1 hIt hmcm hMa1 ⟨by omega, by omega⟩) (rc_o hc cE_IT hIt) ⟨Nat.le_of_ble_eq_true rfl, Nat.le_of_ble_eq_true rfl⟩ (Nat.le_of_ble_eq_true rfl) (by dsimp only [rmE]; omega) (by dsimp only [rmE]; omega) (goA fun r46 G46 h46 => ?_)
    obtain ⟨er46, hgg⟩ := h46
    have er46b : r46 = A (10 + k) := by rw [er46]; show A (10 + (k : Int).toNat) = _; rw [Int.toNat_natCast]
    subst er46b
    rw [hgg]
    have hHt : tg1 r30 / 100 = 998 := by rw [hIg]
    have hO2 := hs_it (e := oE 9 [.int (iI ((k : Int) + 1)), .int (iI (k : Int)), .int (iI mcm), .ref (A 2)]) hO (a := r30) (by omega)
    have ht2 := tgR_up (e := oE 9 [.int (iI ((k : Int) + 1)), .int (iI (k : Int)), .int (iI mcm), .ref (A 2)]) ht hni0 (by rw [hIt]; exact fun z => by cases z)
    have hHs2 := hs_tg hH ht2 hne (by omega)
    have hmk := (hHs2.2.2.2.2.2.2.1 k (by omega)).1
    have htk : tg1 (A (10 + k)) = 100 * hid + (10 + k) := hHs2.2.1 _ (us_m (by omega))
    obtain ⟨G2, hG2⟩ : ∃ G2, G2 = gup G1 r30 (oE 9 [.int (iI ((k : Int) + 1)), .int (iI (k : Int)), .int (iI mcm), .ref (A 2)]) := ⟨_, rfl⟩
    have hIt2 : G2 r30 = some (oE 9 [.int (iI ((k : Int) + 1)), .int (iI (k : Int)), .int (iI mcm), .ref (A 2)]) := by rw [hG2]; exact gup_s
    rw [← hG2] at hO2 ht2 hHs2 hmk ⊢
    refine gw_cast (q := 54) hc dX1_copy_51 rfl q321 (rc_o hc cE_ME hmk) ?_
    refine gw_astore_n (q := 55) hc dX1_copy_54 rfl rfl xs_3 (by decide) (n2p xg_2 rfl) ?_
    rcases Nat.eq_zero_or_pos k with hk0 | hk0
    · have hmk2 : G2 (A (10 + k)) = some (mtO k .null (A (20 + k)) (A (40 + k)) (W k) (S (11 + 13 * (k : Int) + 1)) (S (11 + 13 * (k : Int) + 2)) (S (11 + 13 * (k : Int) + 9)) (S (11 + 13 * (k : Int) + 3)) (S (11 + 13 * (k : Int) + 4)) (S (11 + 13 * (k : Int) + 11)) (S (11 + 13 * (k : Int) + 12)) (S (11 + 13 * (k : Int) + 8)) (S (11 + 13 * (k : Int) + 10)) (S (11 + 13 * (k : Int) + 6)) (S (11 + 13 * (k : Int) + 7)) (S (11 + 13 * (k : Int) + 5))) := by rw [hmk]; unfold mtC thV; rw [if_pos hk0]
      refine gw_aload_n (q := 56) hc dX1_copy_55 rfl rfl xg_1 ?_
      refine gw_aload_n (q := 57) hc dX1_copy_56 rfl rfl xg_3 ?_
      refine gw_getN (q := 60) hc dX1_copy_57 rfl cE_ME 1 (by decide) q413 (fun _ h => h) hmk2 rfl ?_
      refine gw_ifnonnullN (q := 63) hc dX1_copy_60 rfl ?_
      refine gw_bipush (q := 65) hc dX1_copy_63 rfl (by decide) ?_
      refine gw_goto (q := 75) hc dX1_copy_65 (by decide) ?_
      refine gw_callV (q := 78) (bc' := (5 * ((7 - k) - 1) + 37 + 0)) (bs' := (151 * ((7 - k) - 1) + 1576 + 0)) (As := [_]) hc dX1_copy_75 rfl q322 mw_X1_add (rc_o hc cE_HO hO2.2.2.1) rfl rfl (m_X1_add_N (S' := adC S (k : Int)) hO2 (cut_T hT (by omega)) cut_L0 cut_7 (by omega) (by omega) (by rw [adC_7, if_pos (by omega), cut_7]) (fun i _ _ e7 e9 h => by rw [adC_o (by omega)]; exact cut_k7 e7) (fun j a b => adC_n ⟨a, b⟩) ⟨by omega, by omega, by omega⟩ hk0 (by rw [adC_o (by omega), cut_o (by omega)]; exact hp0 (by omega))) ⟨Nat.le_of_ble_eq_true rfl, Nat.le_of_ble_eq_true rfl⟩ (Nat.le_of_ble_eq_true rfl) (by dsimp only [rmE]; omega) (by dsimp only [rmE]; omega) (goA fun r75 G75 h75 => ?_)
      obtain ⟨tg3, B3, er75, hta, hO3, hB3⟩ := h75
      subst er75
      have ht3 := tgR_tr (by omega) ht2 hta
      have e7 : adC S (k : Int) 7 = (k : Int) + 1 := by rw [adC_7, if_pos (by omega)]
      have hIt3 := hta.2.1 _ _ hIt2 (by omega) (by omega)
      have hIg3 : tg3 r30 = 99800 := by rw [hta.1 r30 (by rw [hIt2]; exact fun z => by cases z) (by omega)]; exact hIg
      have hmk3 := hta.2.1 _ _ hmk2 (by omega) (by omega)
      have htk3 : tg3 (A (10 + k)) = 100 * hid + (10 + k) := by rw [hta.1 _ (by rw [hmk2]; exact fun z => by cases z) (by omega)]; exact htk
      have hmn := (hO3.2.2.2.2.2.2.1 k (by omega)).1
      have htn := hO3.2.1 _ (us_m (by omega : (k : Int) < adC S (k : Int) 7))
      have hO4 := hs_upM (S' := cutF S ((k : Int) + 1) 0) (W' := fu W1 (k : Int) 0) (m := k) hO3 (by omega) (fun i _ _ _ h => (adC_o (by omega)).symm) (fun _ _ _ => rfl)
      have ht4 := tgR_upH (a := B3 (10 + k)) (e := mtC B3 (cutF S ((k : Int) + 1) 0) (fu W1 (k : Int) 0) k) ht3 (by omega) (by rw [hmn]; exact fun z => by cases z)
      have hneI : r30 ≠ B3 (10 + k) := fun z => by rw [← z, hIg3] at htn; omega
      refine gw_astore (q := 80) hc dX1_copy_78 rfl xs_4 (by decide) (n2p xg_3 rfl) ?_
      refine gw_aload (q := 82) hc dX1_copy_80 rfl xg_4 ?_
      refine gw_aload_n (q := 83) hc dX1_copy_82 rfl rfl xg_3 ?_
      refine gw_callV (q := 86) (bc' := (5 * ((7 - k) - 1) + 37 + 0)) (bs' := (151 * ((7 - k) - 1) + 1576 + 0)) (As := [_]) hc dX1_copy_83 rfl q490 mw_X3_become (rc_o hc cE_ME hmn) rfl rfl (m_X3_become hmn hmk3 (fun z => by rw [z] at htk3; omega) (hbr k (by omega))) ⟨Nat.le_of_ble_eq_true rfl, Nat.le_of_ble_eq_true rfl⟩ (Nat.le_of_ble_eq_true rfl) (by dsimp only [rmE]; omega) (by dsimp only [rmE]; omega) (goV fun G83 h83 => ?_)
      subst h83
      refine gw_G (show _ = gup G75 (B3 (10 + k)) (mtC B3 (cutF S ((k : Int) + 1) 0) (fu W1 (k : Int) 0) k) from by rw [cp_cell]) ?_
      refine gw_goto (q := 36) hc dX1_copy_86 (by decide) ?_
      refine gw_drop (i := 3) xs_3 ?_
      refine gw_drop (i := 4) xs_4 ?_
      refine gw_lessB (by omega) (by omega) (ih36 ⟨k + 1, gup G75 (B3 (10 + k)) (mtC B3 (cutF S ((k : Int) + 1) 0) (fu W1 (k : Int) 0) k), tg3, B3, fu W1 (k : Int) 0, (k : Int)⟩ ⟨by push_cast; omega, ht4, hO4, (gup_n hneI).trans hIt3, hIg3, hB3 0 us_0⟩ (by show 7 - (k + 1) < 7 - k; omega))
    · have htr := hT.2 (k : Int) (by omega) (by omega)
      obtain ⟨tt, htt⟩ : ∃ tt : Nat, S (11 + 13 * (k : Int)) = tt := ⟨(S (11 + 13 * (k : Int))).toNat, by omega⟩
      have hmk2 : G2 (A (10 + k)) = some (mtO k (.ref (A (10 + tt))) (A (20 + k)) (A (40 + k)) (W k) (S (11 + 13 * (k : Int) + 1)) (S (11 + 13 * (k : Int) + 2)) (S (11 + 13 * (k : Int) + 9)) (S (11 + 13 * (k : Int) + 3)) (S (11 + 13 * (k : Int) + 4)) (S (11 + 13 * (k : Int) + 11)) (S (11 + 13 * (k : Int) + 12)) (S (11 + 13 * (k : Int) + 8)) (S (11 + 13 * (k : Int) + 10)) (S (11 + 13 * (k : Int) + 6)) (S (11 + 13 * (k : Int) + 7)) (S (11 + 13 * (k : Int) + 5))) := by rw [hmk]; unfold mtC thV; rw [if_neg (by omega), htt, Int.toNat_natCast]
      have hth := (hHs2.2.2.2.2.2.2.1 tt (by omega)).1
      refine gw_aload_n (q := 56) hc dX1_copy_55 rfl rfl xg_1 ?_
      refine gw_aload_n (q := 57) hc dX1_copy_56 rfl rfl xg_3 ?_
      refine gw_getN (q := 60) hc dX1_copy_57 rfl cE_ME 1 (by decide) q413 (fun _ h => h) hmk2 rfl ?_
      refine gw_ifnonnull (t := 68) hc dX1_copy_60 (by decide) ?_
      refine gw_aload_n (q := 69) hc dX1_copy_68 rfl rfl xg_3 ?_
      refine gw_getN (q := 72) hc dX1_copy_69 rfl cE_ME 1 (by decide) q413 (fun _ h => h) hmk2 rfl ?_
      refine gw_getN (q := 75) hc dX1_copy_72 rfl cE_ME 0 (by decide) q410 (fun _ h => h) hth rfl ?_
      refine gw_callV (q := 78) (bc' := (5 * ((7 - k) - 1) + 37 + 0)) (bs' := (151 * ((7 - k) - 1) + 1576 + 0)) (As := [_]) hc dX1_copy_75 rfl q322 mw_X1_add (rc_o hc cE_HO hO2.2.2.1) rfl rfl (m_X1_add (tt := tt) (S' := adC S (k : Int)) hO2 (cut_T hT (by omega)) cut_L0 cut_7 (by omega) (by omega) (by rw [adC_7, if_pos (by omega), cut_7]) (fun i _ _ e7 e9 h => by rw [adC_o (by omega)]; exact cut_k7 e7) (fun j a b => adC_n ⟨a, b⟩) (by omega) (by rw [adC_o (by omega), cut_o (by omega)]; exact htt)) ⟨Nat.le_of_ble_eq_true rfl, Nat.le_of_ble_eq_true rfl⟩ (Nat.le_of_ble_eq_true rfl) (by dsimp only [rmE]; omega) (by dsimp only [rmE]; omega) (goA fun r75 G75 h75 => ?_)
      obtain ⟨tg3, B3, er75, hta, hO3, hB3⟩ := h75
      subst er75
      have ht3 := tgR_tr (by omega) ht2 hta
      have e7 : adC S (k : Int) 7 = (k : Int) + 1 := by rw [adC_7, if_pos (by omega)]
      have hIt3 := hta.2.1 _ _ hIt2 (by omega) (by omega)
      have hIg3 : tg3 r30 = 99800 := by rw [hta.1 r30 (by rw [hIt2]; exact fun z => by cases z) (by omega)]; exact hIg
      have hmk3 := hta.2.1 _ _ hmk2 (by omega) (by omega)
      have htk3 : tg3 (A (10 + k)) = 100 * hid + (10 + k) := by rw [hta.1 _ (by rw [hmk2]; exact fun z => by cases z) (by omega)]; exact htk
      have hmn := (hO3.2.2.2.2.2.2.1 k (by omega)).1
      have htn := hO3.2.1 _ (us_m (by omega : (k : Int) < adC S (k : Int) 7))
      have hO4 := hs_upM (S' := cutF S ((k : Int) + 1) 0) (W' := fu W1 (k : Int) 0) (m := k) hO3 (by omega) (fun i _ _ _ h => (adC_o (by omega)).symm) (fun _ _ _ => rfl)
      have ht4 := tgR_upH (a := B3 (10 + k)) (e := mtC B3 (cutF S ((k : Int) + 1) 0) (fu W1 (k : Int) 0) k) ht3 (by omega) (by rw [hmn]; exact fun z => by cases z)
      have hneI : r30 ≠ B3 (10 + k) := fun z => by rw [← z, hIg3] at htn; omega
      refine gw_astore (q := 80) hc dX1_copy_78 rfl xs_4 (by decide) (n2p xg_3 rfl) ?_
      refine gw_aload (q := 82) hc dX1_copy_80 rfl xg_4 ?_
      refine gw_aload_n (q := 83) hc dX1_copy_82 rfl rfl xg_3 ?_
      refine gw_callV (q := 86) (bc' := (5 * ((7 - k) - 1) + 37 + 0)) (bs' := (151 * ((7 - k) - 1) + 1576 + 0)) (As := [_]) hc dX1_copy_83 rfl q490 mw_X3_become (rc_o hc cE_ME hmn) rfl rfl (m_X3_become hmn hmk3 (fun z => by rw [z] at htk3; omega) (hbr k (by omega))) ⟨Nat.le_of_ble_eq_true rfl, Nat.le_of_ble_eq_true rfl⟩ (Nat.le_of_ble_eq_true rfl) (by dsimp only [rmE]; omega) (by dsimp only [rmE]; omega) (goV fun G83 h83 => ?_)
      subst h83
      refine gw_G (show _ = gup G75 (B3 (10 + k)) (mtC B3 (cutF S ((k : Int) + 1) 0) (fu W1 (k : Int) 0) k) from by rw [cp_cell]) ?_
      refine gw_goto (q := 36) hc dX1_copy_86 (by decide) ?_
      refine gw_drop (i := 3) xs_3 ?_
      refine gw_drop (i := 4) xs_4 ?_
      refine gw_lessB (by omega) (by omega) (ih36 ⟨k + 1, gup G75 (B3 (10 + k)) (mtC B3 (cutF S ((k : Int) + 1) 0) (fu W1 (k : Int) 0) k), tg3, B3, fu W1 (k : Int) 0, (k : Int)⟩ ⟨by push_cast; omega, ht4, hO4, (gup_n hneI).trans hIt3, hIg3, hB3 0 us_0⟩ (by show 7 - (k + 1) < 7 - k; omega))

