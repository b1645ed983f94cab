/-! ===== THE JDK: numbers and texts into a string builder ===== -/
set_option maxRecDepth 100000
theorem wr_eq {v n i : Int} {f g : Int → Int} (h : ∀ i, 0 ≤ i → i < n → f i = g i) (h0 : 0 ≤ i) (h1 : i < n + nd v) : wr f n (decL v) i = wr g n (decL v) i := by
  unfold decL
  rw [wr_at, wr_at]
  by_cases e : n ≤ i ∧ i < n + (nd v : Nat)
  · rw [if_pos e, if_pos e]
  · rw [if_neg e, if_neg e, h i h0 (by omega)]
abbrev txF (k : Nat) : Int → Int := fun i => (txE k).2.2.getD i.toNat 0
abbrev txN (k : Nat) : Nat := (txE k).2.2.length
theorem tx_k {k : Nat} (h : k < 8) : k = 0 ∨ k = 1 ∨ k = 2 ∨ k = 3 ∨ k = 4 ∨ k = 5 ∨ k = 6 ∨ k = 7 := by omega
theorem tx_n {k : Nat} (h : k < 8) : txN k ≤ 6 := by
  rcases tx_k h with rfl | rfl | rfl | rfl | rfl | rfl | rfl | rfl <;> decide
theorem tx_b {k : Nat} (h : k < 8) (i : Int) : 0 ≤ txF k i ∧ txF k i < 128 := by
  have key : ∀ (L : List Int), (∀ x ∈ L, 0 ≤ x ∧ x < 128) → ∀ j, 0 ≤ L.getD j 0 ∧ L.getD j 0 < 128 := fun L hL j => by
    rw [List.getD_eq_getElem?_getD]
    by_cases hj : j < L.length
    · rw [List.getElem?_eq_getElem hj]; exact hL _ (List.getElem_mem hj)
    · rw [List.getElem?_eq_none (by omega)]; decide
  refine key _ ?_ _
  rcases tx_k h with rfl | rfl | rfl | rfl | rfl | rfl | rfl | rfl <;> decide
theorem tx_h {k : Nat} (h : k < 6) : rI (txE k).2.1 ∧ (txE k).2.1 ≠ 0 := by
  rcases (by omega : k = 0 ∨ k = 1 ∨ k = 2 ∨ k = 3 ∨ k = 4 ∨ k = 5) with rfl | rfl | rfl | rfl | rfl | rfl <;> decide

theorem mw_J14_stringSize : mS yJ14_stringSize cJ14_stringSize 4 (some FieldType.int) 1 := ⟨⟨by decide +kernel, by decide +kernel, by decide +kernel⟩, q790, q94, q791⟩
theorem mw_J14_getChars : mS yJ14_getChars cJ14_getChars 7 (some FieldType.int) 3 := ⟨⟨by decide +kernel, by decide +kernel, by decide +kernel⟩, q793, q94, q794⟩
set_option maxHeartbeats 4000000 in
theorem m_J3_append_2 {l : Launch} {D : va_G} {X : Nat → Nat} {b0 : Nat} {a vl cap : Nat} {mb n : Int} {f : Int → Int} {G : gM} (hG : G a = some (sbO vl mb n)) (hV : G vl = some (bA D cap f)) (hB : rB f cap) (hc0 : 0 < cap ∧ cap ≤ 180) {v : Int} (hv : 0 ≤ v ∧ v < 2147483648) (hn : 0 ≤ n ∧ n ≤ cap ∧ n + nd v ≤ 90) (hmb : mb = 0 ∨ mb = 1) : gMet l D X b0 yJ3_append_2 cJ3_append_2 4 (some (FieldType.object "java/lang/AbstractStringBuilder")) (rmE 4 1 180) [.ref a, .int (iI v)] G (pA fun r G' => r = a ∧ apP D G a vl (n + nd v) (wr f n (decL v)) G') := by
  refine gm_start (own := "java/lang/AbstractStringBuilder") (lv := [some (.ref a), some (.int (iI v)), none, none]) (by decide +kernel) rfl (Nat.le_of_ble_eq_true rfl) rfl (fun p_ e_ s_ m_ args_ below_ meth_ c_ hc hnm => ?_)
  refine gw_aload_n (q := 1) hc dJ3_append_2_0 rfl rfl xg_0 ?_
  refine gw_get (q := 4) hc dJ3_append_2_1 rfl cE_SB 3 (by decide) q187 (fun _ h => h) hG rfl ?_
  refine gw_istore_n (q := 5) hc dJ3_append_2_4 rfl rfl xs_2 (by decide) (n2p xg_1 rfl) ?_
  refine gw_iload_n (q := 6) hc dJ3_append_2_5 rfl rfl xg_2 ?_
  refine gw_iload_n (q := 7) hc dJ3_append_2_6 rfl rfl xg_1 ?_
  refine gw_callS (q := 10) (bc' := 1) (bs' := 180) (As := [_]) hc dJ3_append_2_7 rfl q789 mw_J14_stringSize rfl rfl (m_J14_stringSize hv) ⟨Nat.le_of_ble_eq_true rfl, Nat.le_of_ble_eq_true rfl⟩ (Nat.le_of_ble_eq_true rfl) (Nat.le_of_ble_eq_true rfl) (Nat.le_of_ble_eq_true rfl) (goI fun r7 G7 h7 => ?_)
  obtain ⟨er7, hgg7⟩ := h7
  subst er7
  rw [hgg7]
  refine gw_iadd (q := 11) hc dJ3_append_2_10 rfl ?_
  refine gw_istore_n (q := 12) hc dJ3_append_2_11 rfl rfl xs_3 (by decide) (n2p xg_2 rfl) ?_
  refine gw_aload_n (q := 13) hc dJ3_append_2_12 rfl rfl xg_0 ?_
  refine gw_iload_n (q := 14) hc dJ3_append_2_13 rfl rfl xg_3 ?_
  refine gw_callUP (q := 17) (bc' := 0) (bs' := 0) (As := [_]) hc dJ3_append_2_14 rfl q691 mp_J3_ensureCapacityInternal rfl rfl (m_J3_ensureCapacityInternal hG hV hB hc0 (by omega)) (rc_o hc cE_SB hG) ⟨Nat.le_of_ble_eq_true rfl, Nat.le_of_ble_eq_true rfl⟩ (Nat.le_of_ble_eq_true rfl) (Nat.le_of_ble_eq_true rfl) (Nat.le_of_ble_eq_true rfl) (goV fun G14 h14 => ?_)
  obtain ⟨vl2, cap2, f2, hv2, hb2, hB2, hf2, hgg⟩ := h14
  rw [hgg]
  have hva : vl2 ≠ a := by rcases hv2 with h | h; (rw [h]; exact sb_ne hG hV); exact (fun z => by rw [z, hG] at h; cases h)
  have hV2 : gup (gup G vl2 (bA D cap2 f2)) a (sbO vl2 mb n) vl2 = some (bA D cap2 f2) := by rw [gup_n hva, gup_s]
  refine gw_aload_n (q := 18) hc dJ3_append_2_17 rfl rfl xg_0 ?_
  refine gw_callU (q := 21) (bc' := 0) (bs' := 0) (As := []) hc dJ3_append_2_18 rfl q711 mu_J3_isLatin1_8 rfl rfl (m_J3_isLatin1 gup_s) (rc_o hc cE_SB gup_s) ⟨Nat.le_of_ble_eq_true rfl, Nat.le_of_ble_eq_true rfl⟩ (Nat.le_of_ble_eq_true rfl) (Nat.le_of_ble_eq_true rfl) (Nat.le_of_ble_eq_true rfl) (goI fun r18 G18 h18 => ?_)
  obtain ⟨rfl, rfl⟩ := h18
  refine gw_if_eq  (q := 24) (t := 37) hc dJ3_append_2_21 rfl (by decide) (by omega) (fun c21 => ?_) (fun c21 => ?_)
  · exfalso; omega
  · skip
    refine gw_iload_n (q := 25) hc dJ3_append_2_24 rfl rfl xg_1 ?_
    refine gw_iload_n (q := 26) hc dJ3_append_2_25 rfl rfl xg_3 ?_
    refine gw_aload_n (q := 27) hc dJ3_append_2_26 rfl rfl xg_0 ?_
    refine gw_get (q := 30) hc dJ3_append_2_27 rfl cE_SB 0 (by decide) q184 (fun _ h => h) gup_s rfl ?_
    refine gw_callS (q := 33) (bc' := 0) (bs' := 0) (As := [_, _, _]) hc dJ3_append_2_30 rfl q792 mw_J14_getChars rfl rfl (m_J14_getChars hV2 hB2 hv ⟨by omega, by omega, by omega⟩) ⟨Nat.le_of_ble_eq_true rfl, Nat.le_of_ble_eq_true rfl⟩ (Nat.le_of_ble_eq_true rfl) (Nat.le_of_ble_eq_true rfl) (Nat.le_of_ble_eq_true rfl) (goI fun r30 G30 h30 => ?_)
    obtain ⟨f3, hB3, hf3, hgg3⟩ := h30
    rw [hgg3]
    refine gw_pop (q := 34) hc dJ3_append_2_33 rfl rfl ?_
    refine gw_goto (q := 48) hc dJ3_append_2_34 (by decide) ?_
    refine gw_aload_n (q := 49) hc dJ3_append_2_48 rfl rfl xg_0 ?_
    refine gw_iload_n (q := 50) hc dJ3_append_2_49 rfl rfl xg_3 ?_
    refine gw_put (q := 53) hc dJ3_append_2_50 rfl cE_SB 3 (by decide) q187 (fun _ h => h) rfl ((gup_n (Ne.symm hva)).trans gup_s) ⟨rfl, rfl⟩ rfl (Nat.le_of_ble_eq_true rfl) ?_
    refine gw_G (sb_g2 hva) ?_
    refine gw_aload_n (q := 54) hc dJ3_append_2_53 rfl rfl xg_0 ?_
    exact gw_aret hc rfl (by first | exact Or.inl ⟨_, rfl⟩ | exact Or.inr ⟨_, rfl⟩) dJ3_append_2_54 ⟨_, rfl, ⟨rfl, vl2, mb, cap2, f3, hv2, ⟨by omega, by omega, by omega, by omega⟩, hmb, hB3, fun i a b => by rw [hf3 i a b]; exact wr_eq (fun j c d => hf2 j c (by omega)) a b, rfl⟩⟩

theorem ms_J3_append_2 : mSU yJ3_append_2 cJ3_append_2 4 (some (FieldType.object "java/lang/AbstractStringBuilder")) 1 := ⟨⟨by decide +kernel, by decide +kernel⟩, q1542, q787, q78, q788⟩
set_option maxHeartbeats 4000000 in
theorem m_J4_append_2 {l : Launch} {D : va_G} {X : Nat → Nat} {b0 : Nat} {tg : Nat → Nat} {pid a : Nat} {n : Int} {F : Int → Int} {G : gM} (hR : sbR D tg pid a n F G) {v : Int} (hv : 0 ≤ v ∧ v < 2147483648) (hn : n + nd v ≤ 90) : gMet l D X b0 yJ4_append_2 cJ4_append_2 2 (some (FieldType.object "java/lang/StringBuilder")) (rmE 5 1 180) [.ref a, .int (iI v)] G (pA fun r G' => r = a ∧ ∃ tg' : Nat → Nat, tgR tg tg' pid G G' ∧ sbR D tg' pid a (n + nd v) (wr F n (decL v)) G') := by
  refine gm_start (own := "java/lang/StringBuilder") (lv := [some (.ref a), some (.int (iI v))]) (by decide +kernel) rfl (Nat.le_of_ble_eq_true rfl) rfl (fun p_ e_ s_ m_ args_ below_ meth_ c_ hc hnm => ?_)
  obtain ⟨vl, mb, cap, f, hG, hV, ht, hb, hmb, hB, hf⟩ := hR
  refine gw_aload_n (q := 1) hc dJ4_append_2_0 rfl rfl xg_0 ?_
  refine gw_iload_n (q := 2) hc dJ4_append_2_1 rfl rfl xg_1 ?_
  refine gw_callSU (q := 5) (bc' := 0) (bs' := 0) (As := [_]) hc dJ4_append_2_2 rfl cE_SB q786 q196 ms_J3_append_2 rfl rfl (m_J3_append_2 hG hV hB (by omega) hv (by omega) hmb) (rc_o hc cE_SB hG) ⟨Nat.le_of_ble_eq_true rfl, Nat.le_of_ble_eq_true rfl⟩ (Nat.le_of_ble_eq_true rfl) (Nat.le_of_ble_eq_true rfl) (Nat.le_of_ble_eq_true rfl) (goA fun r2 G2 h2 => ?_)
  obtain ⟨-, hap⟩ := h2
  refine gw_pop (q := 6) hc dJ4_append_2_5 rfl rfl ?_
  refine gw_aload_n (q := 7) hc dJ4_append_2_6 rfl rfl xg_0 ?_
  exact gw_aret hc rfl (by first | exact Or.inl ⟨_, rfl⟩ | exact Or.inr ⟨_, rfl⟩) dJ4_append_2_7 ⟨_, rfl, ⟨rfl, ap_R hG hV ht hap (fun i a b => wr_eq hf a b)⟩⟩

set_option maxHeartbeats 4000000 in
theorem m_J5_coder {l : Launch} {D : va_G} {X : Nat → Nat} {b0 : Nat} {k : Nat} {G : gM} (hk : k < 8) : gMet l D X b0 yJ5_coder cJ5_coder 1 (some FieldType.byte) (rmE 0 0 0) [.ref (X (10 + k))] G (eI 0 G) := by
  refine gm_start (own := "java/lang/String") (lv := [some (.ref (X (10 + k)))]) (by decide +kernel) rfl (Nat.le_of_ble_eq_true rfl) rfl (fun p_ e_ s_ m_ args_ below_ meth_ c_ hc hnm => ?_)
  refine gw_gets (q := 3) (v := .int (iI 1)) hc dJ5_coder_0 rfl q840 (by exact hc.2.2.2.2.2.2.2.2.2.1.1) (fun _ h => h) ?_
  refine gw_if_eq  (q := 6) (t := 13) hc dJ5_coder_3 rfl (by decide) (by omega) (fun c3 => ?_) (fun c3 => ?_)
  · exfalso; omega
  · skip
    refine gw_aload_n (q := 7) hc dJ5_coder_6 rfl rfl xg_0 ?_
    refine gw_getc (q := 10) (v := .int (iI 0)) hc dJ5_coder_7 rfl q1574 (by exact (hc.2.2.2.2.2.2.2.2.2.2.1.1 _ hk).2.1) (fun _ h => h) ?_
    refine gw_goto (q := 14) hc dJ5_coder_10 (by decide) ?_
    exact gw_bret hc (by rfl) dJ5_coder_14 ⟨_, rfl, ⟨rfl, rfl⟩⟩

theorem mw_J5_coder : mV "java/lang/String" yJ5_coder cJ5_coder 1 (some FieldType.byte) 0 := ⟨⟨rfl, by decide +kernel, by decide +kernel, by decide +kernel⟩, q837, q838, q80, q839⟩
set_option maxHeartbeats 4000000 in
theorem m_J5_length {l : Launch} {D : va_G} {X : Nat → Nat} {b0 : Nat} {k : Nat} {G : gM} (hk : k < 8) : gMet l D X b0 yJ5_length cJ5_length 1 (some FieldType.int) (rmE 1 0 0) [.ref (X (10 + k))] G (eI (txN k) G) := by
  refine gm_start (own := "java/lang/String") (lv := [some (.ref (X (10 + k)))]) (by decide +kernel) rfl (Nat.le_of_ble_eq_true rfl) rfl (fun p_ e_ s_ m_ args_ below_ meth_ c_ hc hnm => ?_)
  refine gw_aload_n (q := 1) hc dJ5_length_0 rfl rfl xg_0 ?_
  refine gw_getc (q := 4) (v := .ref (X (20 + k))) hc dJ5_length_1 rfl q1573 (by exact (hc.2.2.2.2.2.2.2.2.2.2.1.1 _ hk).2.2.1) (fun _ h => h) ?_
  refine gw_tlen (q := 5) hc dJ5_length_4 rfl (N := txN k) (by exact (hc.2.2.2.2.2.2.2.2.2.2.1.1 _ hk).2.2.2.2.2) ?_
  refine gw_aload_n (q := 6) hc dJ5_length_5 rfl rfl xg_0 ?_
  refine gw_callV (q := 9) (bc' := 0) (bs' := 0) (As := []) hc dJ5_length_6 rfl q836 mw_J5_coder (rc_s hc hk) rfl rfl (m_J5_coder hk) ⟨Nat.le_of_ble_eq_true rfl, Nat.le_of_ble_eq_true rfl⟩ (Nat.le_of_ble_eq_true rfl) (Nat.le_of_ble_eq_true rfl) (Nat.le_of_ble_eq_true rfl) (goI fun r6 G6 h6 => ?_)
  obtain ⟨rfl, rfl⟩ := h6
  refine gw_ishr (q := 10) hc dJ5_length_9 rfl ?_
  rw [shr0]
  exact gw_iret hc dJ5_length_10 ⟨_, rfl, ⟨rfl, rfl⟩⟩

set_option maxHeartbeats 4000000 in
theorem m_J5_isEmpty {l : Launch} {D : va_G} {X : Nat → Nat} {b0 : Nat} {k : Nat} {G : gM} (hk : k < 8) : gMet l D X b0 yJ5_isEmpty cJ5_isEmpty 1 (some FieldType.boolean) (rmE 0 0 0) [.ref (X (10 + k))] G (eB (txN k = 0) G) := by
  refine gm_start (own := "java/lang/String") (lv := [some (.ref (X (10 + k)))]) (by decide +kernel) rfl (Nat.le_of_ble_eq_true rfl) rfl (fun p_ e_ s_ m_ args_ below_ meth_ c_ hc hnm => ?_)
  have hn := tx_n hk
  refine gw_aload_n (q := 1) hc dJ5_isEmpty_0 rfl rfl xg_0 ?_
  refine gw_getc (q := 4) (v := .ref (X (20 + k))) hc dJ5_isEmpty_1 rfl q1573 (by exact (hc.2.2.2.2.2.2.2.2.2.2.1.1 _ hk).2.2.1) (fun _ h => h) ?_
  refine gw_tlen (q := 5) hc dJ5_isEmpty_4 rfl (N := txN k) (by exact (hc.2.2.2.2.2.2.2.2.2.2.1.1 _ hk).2.2.2.2.2) ?_
  refine gw_if_ne  (q := 8) (t := 12) hc dJ5_isEmpty_5 rfl (by decide) (by omega) (fun c5 => ?_) (fun c5 => ?_)
  · skip
    refine gw_iconst (q := 13) hc dJ5_isEmpty_12 rfl ?_
    exact gw_zret hc (by first | exact Or.inl rfl | exact Or.inr rfl | omega) dJ5_isEmpty_13 ⟨_, rfl, ⟨by omega, rfl⟩⟩
  · skip
    refine gw_iconst (q := 9) hc dJ5_isEmpty_8 rfl ?_
    refine gw_goto (q := 13) hc dJ5_isEmpty_9 (by decide) ?_
    exact gw_zret hc (by first | exact Or.inl rfl | exact Or.inr rfl | omega) dJ5_isEmpty_13 ⟨_, rfl, ⟨by omega, rfl⟩⟩

set_option maxHeartbeats 4000000 in
theorem m_J5_hashCode {l : Launch} {D : va_G} {X : Nat → Nat} {b0 : Nat} {k : Nat} {G : gM} (hk6 : k < 6) : gMet l D X b0 yJ5_hashCode cJ5_hashCode 2 (some FieldType.int) (rmE 0 0 0) [.ref (X (10 + k))] G (eI (txE k).2.1 G) := by
  refine gm_start (own := "java/lang/String") (lv := [some (.ref (X (10 + k))), none]) (by decide +kernel) rfl (Nat.le_of_ble_eq_true rfl) rfl (fun p_ e_ s_ m_ args_ below_ meth_ c_ hc hnm => ?_)
  have hk : k < 8 := by omega
  obtain ⟨hr, hz⟩ := tx_h hk6
  refine gw_aload_n (q := 1) hc dJ5_hashCode_0 rfl rfl xg_0 ?_
  refine gw_getc (q := 4) (v := .int (iI (txE k).2.1)) hc dJ5_hashCode_1 rfl q1575 (by exact (hc.2.2.2.2.2.2.2.2.2.2.1.1 _ hk).2.2.2.1) (fun _ h => h) ?_
  refine gw_istore_n (q := 5) hc dJ5_hashCode_4 rfl rfl xs_1 (by decide) (n2p xg_0 rfl) ?_
  refine gw_iload_n (q := 6) hc dJ5_hashCode_5 rfl rfl xg_1 ?_
  refine gw_if_ne  (q := 9) (t := 58) hc dJ5_hashCode_6 rfl (by decide) (by omega) (fun c6 => ?_) (fun c6 => ?_)
  · skip
    refine gw_iload_n (q := 59) hc dJ5_hashCode_58 rfl rfl xg_1 ?_
    exact gw_iret hc dJ5_hashCode_59 ⟨_, rfl, ⟨rfl, rfl⟩⟩
  · exfalso; omega

set_option maxHeartbeats 4000000 in
theorem m_J5_equals {l : Launch} {D : va_G} {X : Nat → Nat} {b0 : Nat} {k : Nat} {G : gM} (hk : k < 8) : gMet l D X b0 yJ5_equals cJ5_equals 3 (some FieldType.boolean) (rmE 0 0 0) [.ref (X (10 + k)), .ref (X (10 + k))] G (eI 1 G) := by
  refine gm_start (own := "java/lang/String") (lv := [some (.ref (X (10 + k))), some (.ref (X (10 + k))), none]) (by decide +kernel) rfl (Nat.le_of_ble_eq_true rfl) rfl (fun p_ e_ s_ m_ args_ below_ meth_ c_ hc hnm => ?_)
  refine gw_aload_n (q := 1) hc dJ5_equals_0 rfl rfl xg_0 ?_
  refine gw_aload_n (q := 2) hc dJ5_equals_1 rfl rfl xg_1 ?_
  refine gw_acmp_ne (x := some (X (10 + k))) (y := some (X (10 + k))) (q := 5) (t := 7) hc dJ5_equals_2 rfl (by decide)  (fun c2 => ?_) (fun c2 => ?_)
  · exact absurd rfl c2
  · skip
    refine gw_iconst (q := 6) hc dJ5_equals_5 rfl ?_
    exact gw_zret hc (by first | exact Or.inl rfl | exact Or.inr rfl | omega) dJ5_equals_6 ⟨_, rfl, ⟨rfl, rfl⟩⟩

set_option maxHeartbeats 4000000 in
theorem m_J5_getBytes {l : Launch} {D : va_G} {X : Nat → Nat} {b0 : Nat} {k vl cap : Nat} {n : Int} {f : Int → Int} {G : gM} (hk : k < 8) (hV : G vl = some (bA D cap f)) (hn : 0 ≤ n ∧ n + txN k ≤ cap ∧ cap ≤ 180) : gMet l D X b0 yJ5_getBytes cJ5_getBytes 4 none (rmE 1 0 0) [.ref (X (10 + k)), .ref vl, .int (iI n), .int (iI 0)] G (eV (gup G vl (bA D cap (cpF (txF k) f 0 n (txN k))))) := by
  refine gm_start (own := "java/lang/String") (lv := [some (.ref (X (10 + k))), some (.ref vl), some (.int (iI n)), some (.int (iI 0))]) (by decide +kernel) rfl (Nat.le_of_ble_eq_true rfl) rfl (fun p_ e_ s_ m_ args_ below_ meth_ c_ hc hnm => ?_)
  have htn := tx_n hk
  refine gw_aload_n (q := 1) hc dJ5_getBytes_0 rfl rfl xg_0 ?_
  refine gw_callV (q := 4) (bc' := 0) (bs' := 0) (As := []) hc dJ5_getBytes_1 rfl q836 mw_J5_coder (rc_s hc hk) rfl rfl (m_J5_coder hk) ⟨Nat.le_of_ble_eq_true rfl, Nat.le_of_ble_eq_true rfl⟩ (Nat.le_of_ble_eq_true rfl) (Nat.le_of_ble_eq_true rfl) (Nat.le_of_ble_eq_true rfl) (goI fun r1 G1 h1 => ?_)
  obtain ⟨rfl, rfl⟩ := h1
  refine gw_iload_n (q := 5) hc dJ5_getBytes_4 rfl rfl xg_3 ?_
  refine gw_icmp_ne  (q := 8) (t := 28) hc dJ5_getBytes_5 rfl (by decide) (by omega) (by omega) (fun c5 => ?_) (fun c5 => ?_)
  · exfalso; omega
  · skip
    refine gw_aload_n (q := 9) hc dJ5_getBytes_8 rfl rfl xg_0 ?_
    refine gw_getc (q := 12) (v := .ref (X (20 + k))) hc dJ5_getBytes_9 rfl q1573 (by exact (hc.2.2.2.2.2.2.2.2.2.2.1.1 _ hk).2.2.1) (fun _ h => h) ?_
    refine gw_iconst (q := 13) hc dJ5_getBytes_12 rfl ?_
    refine gw_aload_n (q := 14) hc dJ5_getBytes_13 rfl rfl xg_1 ?_
    refine gw_iload_n (q := 15) hc dJ5_getBytes_14 rfl rfl xg_2 ?_
    refine gw_iload_n (q := 16) hc dJ5_getBytes_15 rfl rfl xg_3 ?_
    refine gw_ishl (q := 17) hc dJ5_getBytes_16 rfl ?_
    rw [shl0]
    refine gw_aload_n (q := 18) hc dJ5_getBytes_17 rfl rfl xg_0 ?_
    refine gw_getc (q := 21) (v := .ref (X (20 + k))) hc dJ5_getBytes_18 rfl q1573 (by exact (hc.2.2.2.2.2.2.2.2.2.2.1.1 _ hk).2.2.1) (fun _ h => h) ?_
    refine gw_tlen (q := 22) hc dJ5_getBytes_21 rfl (N := txN k) (by exact (hc.2.2.2.2.2.2.2.2.2.2.1.1 _ hk).2.2.2.2.2) ?_
    refine gw_copyt (q := 25) hc dJ5_getBytes_22 rfl q854 q262 q261 q85 (f := txF k) (n0 := txN k) (by exact (hc.2.2.2.2.2.2.2.2.2.2.1.1 _ hk).2.2.2.2.2) hV ⟨by omega, by omega⟩ ⟨by omega, by omega⟩ (by omega) ⟨by omega, by omega⟩ (fun i a b => by have := tx_b hk (0 + i); omega) (Nat.le_of_ble_eq_true rfl) (Nat.le_of_ble_eq_true rfl) ?_
    refine gw_goto (q := 43) hc dJ5_getBytes_25 (by decide) ?_
    exact gw_vret hc dJ5_getBytes_43 ⟨rfl, rfl⟩

set_option maxHeartbeats 4000000 in
theorem m_J3_inflateIfNeededFor {l : Launch} {D : va_G} {X : Nat → Nat} {b0 : Nat} {a vl cap : Nat} {mb n : Int} {f : Int → Int} {G : gM} (hG : G a = some (sbO vl mb n)) (hV : G vl = some (bA D cap f)) {k : Nat} (hk : k < 8) : gMet l D X b0 yJ3_inflateIfNeededFor cJ3_inflateIfNeededFor 2 none (rmE 1 0 0) [.ref a, .ref (X (10 + k))] G (eV G) := by
  refine gm_start (own := "java/lang/AbstractStringBuilder") (lv := [some (.ref a), some (.ref (X (10 + k)))]) (by decide +kernel) rfl (Nat.le_of_ble_eq_true rfl) rfl (fun p_ e_ s_ m_ args_ below_ meth_ c_ hc hnm => ?_)
  refine gw_gets (q := 3) (v := .int (iI 1)) hc dJ3_inflateIfNeededFor_0 rfl q175 (by exact hc.2.2.2.2.2.2.2.2.2.1.1) (fun _ h => h) ?_
  refine gw_if_eq  (q := 6) (t := 21) hc dJ3_inflateIfNeededFor_3 rfl (by decide) (by omega) (fun c3 => ?_) (fun c3 => ?_)
  · exfalso; omega
  · skip
    refine gw_aload_n (q := 7) hc dJ3_inflateIfNeededFor_6 rfl rfl xg_0 ?_
    refine gw_get (q := 10) hc dJ3_inflateIfNeededFor_7 rfl cE_SB 1 (by decide) q185 (fun _ h => h) hG rfl ?_
    refine gw_aload_n (q := 11) hc dJ3_inflateIfNeededFor_10 rfl rfl xg_1 ?_
    refine gw_callV (q := 14) (bc' := 0) (bs' := 0) (As := []) hc dJ3_inflateIfNeededFor_11 rfl q849 mw_J5_coder (rc_s hc hk) rfl rfl (m_J5_coder hk) ⟨Nat.le_of_ble_eq_true rfl, Nat.le_of_ble_eq_true rfl⟩ (Nat.le_of_ble_eq_true rfl) (Nat.le_of_ble_eq_true rfl) (Nat.le_of_ble_eq_true rfl) (goI fun r11 G11 h11 => ?_)
    obtain ⟨rfl, rfl⟩ := h11
    refine gw_icmp_eq  (q := 17) (t := 21) hc dJ3_inflateIfNeededFor_14 rfl (by decide) (by omega) (by omega) (fun c14 => ?_) (fun c14 => ?_)
    · skip
      exact gw_vret hc dJ3_inflateIfNeededFor_21 ⟨rfl, rfl⟩
    · exfalso; omega

theorem mp_J3_inflateIfNeededFor : mP yJ3_inflateIfNeededFor cJ3_inflateIfNeededFor 2 none 1 := ⟨⟨by decide +kernel, by decide +kernel, by decide +kernel⟩, q1546, q846, q847, q78, q848⟩
theorem mw_J5_getBytes : mV "java/lang/String" yJ5_getBytes cJ5_getBytes 4 none 3 := ⟨⟨rfl, by decide +kernel, by decide +kernel, by decide +kernel⟩, q851, q852, q80, q853⟩
set_option maxHeartbeats 4000000 in
theorem m_J3_putStringAt {l : Launch} {D : va_G} {X : Nat → Nat} {b0 : Nat} {a vl cap : Nat} {mb n : Int} {f : Int → Int} {G : gM} (hG : G a = some (sbO vl mb n)) (hV : G vl = some (bA D cap f)) {k : Nat} {p : Int} (hk : k < 8) (hn : 0 ≤ p ∧ p + txN k ≤ cap ∧ cap ≤ 180) : gMet l D X b0 yJ3_putStringAt cJ3_putStringAt 3 none (rmE 2 0 0) [.ref a, .int (iI p), .ref (X (10 + k))] G (eV (gup G vl (bA D cap (cpF (txF k) f 0 p (txN k))))) := by
  refine gm_start (own := "java/lang/AbstractStringBuilder") (lv := [some (.ref a), some (.int (iI p)), some (.ref (X (10 + k)))]) (by decide +kernel) rfl (Nat.le_of_ble_eq_true rfl) rfl (fun p_ e_ s_ m_ args_ below_ meth_ c_ hc hnm => ?_)
  refine gw_aload_n (q := 1) hc dJ3_putStringAt_0 rfl rfl xg_0 ?_
  refine gw_aload_n (q := 2) hc dJ3_putStringAt_1 rfl rfl xg_2 ?_
  refine gw_callUP (q := 5) (bc' := 0) (bs' := 0) (As := [_]) hc dJ3_putStringAt_2 rfl q845 mp_J3_inflateIfNeededFor rfl rfl (m_J3_inflateIfNeededFor hG hV hk) (rc_o hc cE_SB hG) ⟨Nat.le_of_ble_eq_true rfl, Nat.le_of_ble_eq_true rfl⟩ (Nat.le_of_ble_eq_true rfl) (Nat.le_of_ble_eq_true rfl) (Nat.le_of_ble_eq_true rfl) (goV fun G2 h2 => ?_)
  subst h2
  refine gw_aload_n (q := 6) hc dJ3_putStringAt_5 rfl rfl xg_2 ?_
  refine gw_aload_n (q := 7) hc dJ3_putStringAt_6 rfl rfl xg_0 ?_
  refine gw_get (q := 10) hc dJ3_putStringAt_7 rfl cE_SB 0 (by decide) q184 (fun _ h => h) hG rfl ?_
  refine gw_iload_n (q := 11) hc dJ3_putStringAt_10 rfl rfl xg_1 ?_
  refine gw_aload_n (q := 12) hc dJ3_putStringAt_11 rfl rfl xg_0 ?_
  refine gw_get (q := 15) hc dJ3_putStringAt_12 rfl cE_SB 1 (by decide) q185 (fun _ h => h) hG rfl ?_
  refine gw_callV (q := 18) (bc' := 0) (bs' := 0) (As := [_, _, _]) hc dJ3_putStringAt_15 rfl q850 mw_J5_getBytes (rc_s hc hk) rfl rfl (m_J5_getBytes hk hV hn) ⟨Nat.le_of_ble_eq_true rfl, Nat.le_of_ble_eq_true rfl⟩ (Nat.le_of_ble_eq_true rfl) (Nat.le_of_ble_eq_true rfl) (Nat.le_of_ble_eq_true rfl) (goV fun G15 h15 => ?_)
  subst h15
  exact gw_vret hc dJ3_putStringAt_18 ⟨rfl, rfl⟩

theorem tx_cp {k cap : Nat} {f : Int → Int} {n i : Int} (hk : k < 8) (hB : rB f cap) (h0 : 0 ≤ i) (h1 : i < cap) : -128 ≤ cpF (txF k) f 0 n (txN k) i ∧ cpF (txF k) f 0 n (txN k) i < 128 := by
  unfold cpF
  split
  · have := tx_b hk (0 + (i - n)); omega
  · exact hB i h0 h1
theorem tx_cq {k : Nat} {f g : Int → Int} {n i : Int} (h : ∀ j, 0 ≤ j → j < n → f j = g j) (h0 : 0 ≤ i) (h1 : i < n + txN k) : cpF (txF k) f 0 n (txN k) i = cpF (txF k) g 0 n (txN k) i := by
  unfold cpF
  by_cases e : n ≤ i ∧ i < n + txN k
  · rw [if_pos e, if_pos e]
  · rw [if_neg e, if_neg e, h i h0 (by omega)]
theorem mw_J5_length : mV "java/lang/String" yJ5_length cJ5_length 1 (some FieldType.int) 0 := ⟨⟨rfl, by decide +kernel, by decide +kernel, by decide +kernel⟩, q833, q834, q80, q835⟩
theorem mp_J3_putStringAt : mP yJ3_putStringAt cJ3_putStringAt 3 none 2 := ⟨⟨by decide +kernel, by decide +kernel, by decide +kernel⟩, q1545, q842, q843, q78, q844⟩
set_option maxHeartbeats 4000000 in
theorem m_J3_append_3 {l : Launch} {D : va_G} {X : Nat → Nat} {b0 : Nat} {a vl cap : Nat} {mb n : Int} {f : Int → Int} {G : gM} (hG : G a = some (sbO vl mb n)) (hV : G vl = some (bA D cap f)) (hB : rB f cap) (hc0 : 0 < cap ∧ cap ≤ 180) {k : Nat} (hk : k < 8) (hn : 0 ≤ n ∧ n ≤ cap ∧ n < 80) (hmb : mb = 0 ∨ mb = 1) : gMet l D X b0 yJ3_append_3 cJ3_append_3 3 (some (FieldType.object "java/lang/AbstractStringBuilder")) (rmE 4 1 180) [.ref a, .ref (X (10 + k))] G (pA fun r G' => r = a ∧ apP D G a vl (n + txN k) (cpF (txF k) f 0 n (txN k)) G') := by
  refine gm_start (own := "java/lang/AbstractStringBuilder") (lv := [some (.ref a), some (.ref (X (10 + k))), none]) (by decide +kernel) rfl (Nat.le_of_ble_eq_true rfl) rfl (fun p_ e_ s_ m_ args_ below_ meth_ c_ hc hnm => ?_)
  have htn := tx_n hk
  refine gw_aload_n (q := 1) hc dJ3_append_3_0 rfl rfl xg_1 ?_
  refine gw_ifnonnull (t := 9) hc dJ3_append_3_1 (by decide) ?_
  refine gw_aload_n (q := 10) hc dJ3_append_3_9 rfl rfl xg_1 ?_
  refine gw_callV (q := 13) (bc' := 1) (bs' := 180) (As := []) hc dJ3_append_3_10 rfl q832 mw_J5_length (rc_s hc hk) rfl rfl (m_J5_length hk) ⟨Nat.le_of_ble_eq_true rfl, Nat.le_of_ble_eq_true rfl⟩ (Nat.le_of_ble_eq_true rfl) (Nat.le_of_ble_eq_true rfl) (Nat.le_of_ble_eq_true rfl) (goI fun r10 G10 h10 => ?_)
  obtain ⟨er10, hgg10⟩ := h10
  subst er10
  rw [hgg10]
  refine gw_istore_n (q := 14) hc dJ3_append_3_13 rfl rfl xs_2 (by decide) (n2p xg_1 rfl) ?_
  refine gw_aload_n (q := 15) hc dJ3_append_3_14 rfl rfl xg_0 ?_
  refine gw_aload_n (q := 16) hc dJ3_append_3_15 rfl rfl xg_0 ?_
  refine gw_get (q := 19) hc dJ3_append_3_16 rfl cE_SB 3 (by decide) q187 (fun _ h => h) hG rfl ?_
  refine gw_iload_n (q := 20) hc dJ3_append_3_19 rfl rfl xg_2 ?_
  refine gw_iadd (q := 21) hc dJ3_append_3_20 rfl ?_
  refine gw_callUP (q := 24) (bc' := 0) (bs' := 0) (As := [_]) hc dJ3_append_3_21 rfl q691 mp_J3_ensureCapacityInternal rfl rfl (m_J3_ensureCapacityInternal hG hV hB hc0 (by omega)) (rc_o hc cE_SB hG) ⟨Nat.le_of_ble_eq_true rfl, Nat.le_of_ble_eq_true rfl⟩ (Nat.le_of_ble_eq_true rfl) (Nat.le_of_ble_eq_true rfl) (Nat.le_of_ble_eq_true rfl) (goV fun G21 h21 => ?_)
  obtain ⟨vl2, cap2, f2, hv2, hb2, hB2, hf2, hgg⟩ := h21
  rw [hgg]
  have hva : vl2 ≠ a := by rcases hv2 with h | h; (rw [h]; exact sb_ne hG hV); exact (fun z => by rw [z, hG] at h; cases h)
  have hV2 : gup (gup G vl2 (bA D cap2 f2)) a (sbO vl2 mb n) vl2 = some (bA D cap2 f2) := by rw [gup_n hva, gup_s]
  refine gw_aload_n (q := 25) hc dJ3_append_3_24 rfl rfl xg_0 ?_
  refine gw_aload_n (q := 26) hc dJ3_append_3_25 rfl rfl xg_0 ?_
  refine gw_get (q := 29) hc dJ3_append_3_26 rfl cE_SB 3 (by decide) q187 (fun _ h => h) gup_s rfl ?_
  refine gw_aload_n (q := 30) hc dJ3_append_3_29 rfl rfl xg_1 ?_
  refine gw_callUP (q := 33) (bc' := 0) (bs' := 0) (As := [_, _]) hc dJ3_append_3_30 rfl q841 mp_J3_putStringAt rfl rfl (m_J3_putStringAt (p := n) gup_s hV2 hk ⟨by omega, by omega, by omega⟩) (rc_o hc cE_SB gup_s) ⟨Nat.le_of_ble_eq_true rfl, Nat.le_of_ble_eq_true rfl⟩ (Nat.le_of_ble_eq_true rfl) (Nat.le_of_ble_eq_true rfl) (Nat.le_of_ble_eq_true rfl) (goV fun G30 h30 => ?_)
  subst h30
  refine gw_aload_n (q := 34) hc dJ3_append_3_33 rfl rfl xg_0 ?_
  refine gw_dup (q := 35) hc dJ3_append_3_34 rfl rfl ?_
  refine gw_get (q := 38) hc dJ3_append_3_35 rfl cE_SB 3 (by decide) q187 (fun _ h => h) ((gup_n (Ne.symm hva)).trans gup_s) rfl ?_
  refine gw_iload_n (q := 39) hc dJ3_append_3_38 rfl rfl xg_2 ?_
  refine gw_iadd (q := 40) hc dJ3_append_3_39 rfl ?_
  refine gw_put (q := 43) hc dJ3_append_3_40 rfl cE_SB 3 (by decide) q187 (fun _ h => h) rfl ((gup_n (Ne.symm hva)).trans gup_s) ⟨rfl, rfl⟩ rfl (Nat.le_of_ble_eq_true rfl) ?_
  refine gw_G (sb_g2 hva) ?_
  refine gw_aload_n (q := 44) hc dJ3_append_3_43 rfl rfl xg_0 ?_
  exact gw_aret hc rfl (by first | exact Or.inl ⟨_, rfl⟩ | exact Or.inr ⟨_, rfl⟩) dJ3_append_3_44 ⟨_, rfl, ⟨rfl, vl2, mb, cap2, _, hv2, ⟨by omega, by omega, by omega, by omega⟩, hmb, fun i a b => tx_cp hk hB2 a b, fun i a b => tx_cq (fun j c d => hf2 j c (by omega)) a b, rfl⟩⟩

theorem ms_J3_append_3 : mSU yJ3_append_3 cJ3_append_3 3 (some (FieldType.object "java/lang/AbstractStringBuilder")) 1 := ⟨⟨by decide +kernel, by decide +kernel⟩, q1543, q823, q78, q824⟩
set_option maxHeartbeats 4000000 in
theorem m_J4_append_3 {l : Launch} {D : va_G} {X : Nat → Nat} {b0 : Nat} {tg : Nat → Nat} {pid a : Nat} {n : Int} {F : Int → Int} {G : gM} (hR : sbR D tg pid a n F G) {k : Nat} (hk : k < 8) (hn : n < 80) : gMet l D X b0 yJ4_append_3 cJ4_append_3 2 (some (FieldType.object "java/lang/StringBuilder")) (rmE 5 1 180) [.ref a, .ref (X (10 + k))] G (pA fun r G' => r = a ∧ ∃ tg' : Nat → Nat, tgR tg tg' pid G G' ∧ sbR D tg' pid a (n + txN k) (cpF (txF k) F 0 n (txN k)) G') := by
  refine gm_start (own := "java/lang/StringBuilder") (lv := [some (.ref a), some (.ref (X (10 + k)))]) (by decide +kernel) rfl (Nat.le_of_ble_eq_true rfl) rfl (fun p_ e_ s_ m_ args_ below_ meth_ c_ hc hnm => ?_)
  obtain ⟨vl, mb, cap, f, hG, hV, ht, hb, hmb, hB, hf⟩ := hR
  refine gw_aload_n (q := 1) hc dJ4_append_3_0 rfl rfl xg_0 ?_
  refine gw_aload_n (q := 2) hc dJ4_append_3_1 rfl rfl xg_1 ?_
  refine gw_callSU (q := 5) (bc' := 0) (bs' := 0) (As := [_]) hc dJ4_append_3_2 rfl cE_SB q822 q196 ms_J3_append_3 rfl rfl (m_J3_append_3 hG hV hB (by omega) hk (by omega) hmb) (rc_o hc cE_SB hG) ⟨Nat.le_of_ble_eq_true rfl, Nat.le_of_ble_eq_true rfl⟩ (Nat.le_of_ble_eq_true rfl) (Nat.le_of_ble_eq_true rfl) (Nat.le_of_ble_eq_true rfl) (goA fun r2 G2 h2 => ?_)
  obtain ⟨-, hap⟩ := h2
  refine gw_pop (q := 6) hc dJ4_append_3_5 rfl rfl ?_
  refine gw_aload_n (q := 7) hc dJ4_append_3_6 rfl rfl xg_0 ?_
  exact gw_aret hc rfl (by first | exact Or.inl ⟨_, rfl⟩ | exact Or.inr ⟨_, rfl⟩) dJ4_append_3_7 ⟨_, rfl, ⟨rfl, ap_R hG hV ht hap (fun i a b => tx_cq hf a b)⟩⟩

