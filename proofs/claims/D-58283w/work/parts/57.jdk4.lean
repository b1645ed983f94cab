/-! ===== THE JDK: string builders ===== -/
set_option maxRecDepth 100000
abbrev sbO (vl : Nat) (mb n : Int) : va_E := oE 8 [.ref vl, .int (iI 0), .int (iI mb), .int (iI n)]
theorem shl0 (x : Int32) : x <<< (iI 0 &&& 31) = x := by
  have e : iI 0 &&& 31 = 0 := by decide
  rw [e, Int32.shiftLeft_zero]
theorem shr0 (x : Int32) : x >>> (iI 0 &&& 31) = x := by
  have e : iI 0 &&& 31 = 0 := by decide
  rw [e, Int32.shiftRight_zero]
theorem and255 {z : Int} (h : 0 ≤ z ∧ z < 256) : iI z &&& iI 255 = iI z := by
  obtain ⟨n, rfl⟩ : ∃ n : Nat, z = n := ⟨z.toNat, by omega⟩
  have key : ∀ n : Nat, n < 256 → iI (n : Int) &&& iI 255 = iI (n : Int) := by decide +kernel
  exact key n (by omega)
/-- bytes -/
def rB (f : Int → Int) (cap : Nat) : Prop := ∀ i : Int, 0 ≤ i → i < cap → -128 ≤ f i ∧ f i < 128
theorem rB_fu {f : Int → Int} {cap : Nat} {z v : Int} (h : rB f cap) (hv : -128 ≤ v ∧ v < 128) : rB (fu f z v) cap := fun i a b => by
  by_cases e : i = z
  · rw [e, fu_s]; exact hv
  · rw [fu_n e]; exact h i a b
/-- what an append leaves: the array, maybe a new one, n signs F -/
def apP (D : va_G) (G : gM) (a vl : Nat) (n : Int) (F : Int → Int) (G' : gM) : Prop :=
  ∃ (vl' : Nat) (mb' : Int) (cap' : Nat) (f' : Int → Int), (vl' = vl ∨ G vl' = none) ∧ (0 ≤ n ∧ n ≤ cap' ∧ cap' ≤ 180 ∧ 0 < cap') ∧ (mb' = 0 ∨ mb' = 1) ∧ rB f' cap' ∧ (∀ i, 0 ≤ i → i < n → f' i = F i) ∧ G' = gup (gup G vl' (bA D cap' f')) a (sbO vl' mb' n)
/-- a pad of n signs F -/
def sbR (D : va_G) (tg : Nat → Nat) (pid a : Nat) (n : Int) (F : Int → Int) (G : gM) : Prop :=
  ∃ (vl : Nat) (mb : Int) (cap : Nat) (f : Int → Int), G a = some (sbO vl mb n) ∧ G vl = some (bA D cap f) ∧ (tg a = 100 * pid ∧ tg vl = 100 * pid + 1) ∧ (0 ≤ n ∧ n ≤ cap ∧ cap ≤ 180 ∧ 0 < cap) ∧ (mb = 0 ∨ mb = 1) ∧ rB f cap ∧ ∀ i, 0 ≤ i → i < n → f i = F i
theorem sb_g1 {G : gM} {v a : Nat} {b s s2 b2 : va_E} (h : v ≠ a) : gup (gup (gup (gup G v b) a s) a s2) v b2 = gup (gup G v b2) a s2 := by
  rw [gup_gup, gup_comm (Ne.symm h), gup_gup]
theorem sb_g2 {G : gM} {v a : Nat} {b s b2 s2 : va_E} (h : v ≠ a) : gup (gup (gup (gup G v b) a s) v b2) a s2 = gup (gup G v b2) a s2 := by
  rw [gup_comm (Ne.symm h), gup_gup, gup_gup]
section SB
variable {D : va_G} {tg : Nat → Nat} {pid a vl cap : Nat} {mb n n' : Int} {f F F' : Int → Int} {G G' : gM}
theorem sb_ne (hG : G a = some (sbO vl mb n)) (hV : G vl = some (bA D cap f)) : vl ≠ a := fun z => by rw [z, hG] at hV; cases hV
theorem ap_R (hG : G a = some (sbO vl mb n)) (hV : G vl = some (bA D cap f)) (ht : tg a = 100 * pid ∧ tg vl = 100 * pid + 1) (h : apP D G a vl n' F G') (hF : ∀ i, 0 ≤ i → i < n' → F i = F' i) : ∃ tg' : Nat → Nat, tgR tg tg' pid G G' ∧ sbR D tg' pid a n' F' G' := by
  obtain ⟨vl', mb', cap', f', h1, h2, h3, hrb, h4, rfl⟩ := h
  have nn : ∀ {q e}, G q = some e → G q ≠ none := fun h z => by rw [z] at h; cases h
  rcases h1 with rfl | h1
  · have hva := sb_ne hG hV
    refine ⟨tg, tgR_upH (tgR_upH tgR_rf (by omega) (nn hV)) (by omega) (gup_nn (nn hG)), vl', mb', cap', f', gup_s, by rw [gup_n hva, gup_s], ht, h2, h3, hrb, fun i a b => by rw [h4 i a b, hF i a b]⟩
  · have hva : vl' ≠ a := fun z => by rw [z, hG] at h1; cases h1
    refine ⟨fun q => if q = vl' then 100 * pid + 1 else tg q, tgR_upH (tgR_new h1 (Or.inl (by omega))) ?_ (gup_nn (nn hG)), vl', mb', cap', f', gup_s, by rw [gup_n hva, gup_s], ⟨?_, if_pos rfl⟩, h2, h3, hrb, fun i a b => by rw [h4 i a b, hF i a b]⟩
    · show (if a = vl' then 100 * pid + 1 else tg a) / 100 = pid
      rw [if_neg (Ne.symm hva)]; omega
    · show (if a = vl' then 100 * pid + 1 else tg a) = _
      rw [if_neg (Ne.symm hva)]; exact ht.1
end SB
/-! digits -/
theorem wr_at {v : Int} : ∀ (k : Nat) (Pd : Int → Int) (ln i : Int), wr Pd ln (decK v k) i = if ln ≤ i ∧ i < ln + k then 48 + v / tp (k - 1 - (i - ln).toNat) % 10 else Pd i
  | 0, Pd, ln, i => by simp only [decK, wr]; rw [if_neg (by omega)]
  | k + 1, Pd, ln, i => by
    simp only [decK, wr]
    rw [wr_at k]
    by_cases e : i = ln
    · subst e
      rw [if_neg (by omega), fu_s, if_pos (by omega), show k + 1 - 1 - (i - i).toNat = k by omega]
    · by_cases h : ln ≤ i ∧ i < ln + (k + 1 : Nat)
      · rw [if_pos (by omega), if_pos h, show k - 1 - (i - (ln + 1)).toNat = k + 1 - 1 - (i - ln).toNat by omega]
      · rw [if_neg (by omega), if_neg h, fu_n e]
theorem nd_100 {u : Int} (h : 100 ≤ u) (h2 : u < 2147483648) : nd u = nd (u / 100) + 2 := by
  unfold nd
  (repeat' split) <;> omega
theorem tp_d {v : Int} {j : Nat} : v / tp (j + 1) = v / tp j / 10 := by
  have := tp_p j
  simp only [tp]
  rw [Int.ediv_ediv_of_nonneg (by omega)]
theorem iI_divN {u : Int} (h : 0 ≤ u ∧ u < 2147483648) : iI (-u) / iI 100 = iI (-(u / 100)) := by
  rw [← Int32.toInt_inj, Int32.toInt_div, iI_toInt ⟨by omega, by omega⟩, iI_toInt ⟨by omega, by omega⟩, iI_toInt ⟨by omega, by omega⟩, Int.neg_tdiv, Int.tdiv_eq_ediv_of_nonneg h.1]
  exact Int.bmod_eq_of_le (by omega) (by omega)
section GWDN
variable {p : Program} {l : Launch} {e : Env} {R : Room} {s : State} {m : MethodId} {args : Array Value} {below : List Frame} {meth : Method} {c : Code} {Q : State → Prop}
variable {D : va_G} {X : Nat → Nat} {b0 nL bc bs pc q : Nat} {own : String} {cc : ByteArray} {ret : Option FieldType} {G : gM} {lv lv' lv1 : List (Option Value)} {st : List Value}
theorem gw_idivN (hc : cx p s m args meth c D X b0 own cc nL ret) {u : Int} (d : decode cc pc = .ok (.idiv, 1)) (hq : pc + 1 = q) (h0 : 0 ≤ u ∧ u < 2147483648) (k : GW p l e R s m args below meth c D b0 nL Q G bc bs q lv (.int (iI (-(u / 100))) :: st)) : GW p l e R s m args below meth c D b0 nL Q G bc bs pc lv (.int (iI 100) :: .int (iI (-u)) :: st) := by
  subst hq
  intro H locs ls cells slots h1 h2 hg hl
  exact lv_idiv hc.1 hc.2.1 d (by decide) (by rw [iI_divN h0]; exact k H locs ls cells slots h1 h2 hg hl)
end GWDN

set_option maxHeartbeats 4000000 in
theorem m_J3_init {l : Launch} {D : va_G} {X : Nat → Nat} {b0 : Nat} {a : Nat} {G : gM} (hG : G a = some (oE 8 [.null, .int (iI 0), .int (iI 0), .int (iI 0)])) : gMet l D X b0 yJ3_init cJ3_init 2 none (rmE 1 1 16) [.ref a, .int (iI 16)] G (pV fun G' => ∃ x : Nat, G x = none ∧ G' = gup (gup G x (bA D 16 (fun _ => 0))) a (sbO x 0 0)) := by
  refine gm_start (own := "java/lang/AbstractStringBuilder") (lv := [some (.ref a), some (.int (iI 16))]) (by decide +kernel) rfl (Nat.le_of_ble_eq_true rfl) rfl (fun p_ e_ s_ m_ args_ below_ meth_ c_ hc hnm => ?_)
  refine gw_aload_n (q := 1) hc dJ3_init_0 rfl rfl xg_0 ?_
  refine gw_objInit (q := 4) hc dJ3_init_1 rfl q174 (Nat.le_of_ble_eq_true rfl) (Nat.le_of_ble_eq_true rfl) ?_
  refine gw_gets (q := 7) (v := .int (iI 1)) hc dJ3_init_4 rfl q175 (by exact hc.2.2.2.2.2.2.2.2.2.1.1) (fun _ h => h) ?_
  refine gw_if_eq  (q := 10) (t := 25) hc dJ3_init_7 rfl (by decide) (by omega) (fun c7 => ?_) (fun c7 => ?_)
  · exfalso; omega
  · skip
    refine gw_aload_n (q := 11) hc dJ3_init_10 rfl rfl xg_0 ?_
    refine gw_iload_n (q := 12) hc dJ3_init_11 rfl rfl xg_1 ?_
    refine gw_newb (q := 14) (n := 16) hc dJ3_init_12 rfl q197 (by omega) (bc' := 0) (bs' := 0) (Nat.le_of_ble_eq_true rfl) (Nat.le_of_ble_eq_true rfl) (fun x hnx hbx => ?_)
    refine gw_put (q := 17) hc dJ3_init_14 rfl cE_SB 0 (by decide) q184 (fun _ h => h) rfl (gup_k hG hnx) ⟨rfl, rfl⟩ rfl (Nat.le_of_ble_eq_true rfl) ?_
    refine gw_aload_n (q := 18) hc dJ3_init_17 rfl rfl xg_0 ?_
    refine gw_iconst (q := 19) hc dJ3_init_18 rfl ?_
    refine gw_put (q := 22) hc dJ3_init_19 rfl cE_SB 1 (by decide) q185 (fun _ h => h) rfl gup_s ⟨rfl, rfl⟩ rfl (Nat.le_of_ble_eq_true rfl) ?_
    refine gw_G gup_gup ?_
    refine gw_goto (q := 38) hc dJ3_init_22 (by decide) ?_
    exact gw_vret hc dJ3_init_38 ⟨rfl, ⟨x, hnx, rfl⟩⟩

theorem mw_J3_init : mI yJ3_init cJ3_init 2 1 := ⟨⟨rfl, by decide +kernel, by decide +kernel, by decide +kernel⟩, q172, q78, q173⟩
set_option maxHeartbeats 4000000 in
theorem m_J4_init {l : Launch} {D : va_G} {X : Nat → Nat} {b0 : Nat} {a : Nat} {G : gM} (hG : G a = some (oE 8 [.null, .int (iI 0), .int (iI 0), .int (iI 0)])) : gMet l D X b0 yJ4_init cJ4_init 1 none (rmE 2 1 16) [.ref a] G (pV fun G' => ∃ x : Nat, G x = none ∧ G' = gup (gup G x (bA D 16 (fun _ => 0))) a (sbO x 0 0)) := by
  refine gm_start (own := "java/lang/StringBuilder") (lv := [some (.ref a)]) (by decide +kernel) rfl (Nat.le_of_ble_eq_true rfl) rfl (fun p_ e_ s_ m_ args_ below_ meth_ c_ hc hnm => ?_)
  refine gw_aload_n (q := 1) hc dJ4_init_0 rfl rfl xg_0 ?_
  refine gw_bipush (q := 3) hc dJ4_init_1 rfl (by decide) ?_
  refine gw_callI (q := 6) (bc' := 0) (bs' := 0) (As := [_]) hc dJ4_init_3 rfl q171 mw_J3_init rfl rfl (m_J3_init hG) ⟨Nat.le_of_ble_eq_true rfl, Nat.le_of_ble_eq_true rfl⟩ (Nat.le_of_ble_eq_true rfl) (Nat.le_of_ble_eq_true rfl) (Nat.le_of_ble_eq_true rfl) (goV fun G3 h3 => ?_)
  exact gw_vret hc dJ4_init_6 ⟨rfl, h3⟩

set_option maxHeartbeats 4000000 in
theorem m_J3_isLatin1 {l : Launch} {D : va_G} {X : Nat → Nat} {b0 : Nat} {a vl : Nat} {mb n : Int} {G : gM} (hG : G a = some (sbO vl mb n)) : gMet l D X b0 yJ3_isLatin1 cJ3_isLatin1 1 (some FieldType.boolean) (rmE 0 0 0) [.ref a] G (eI 1 G) := by
  refine gm_start (own := "java/lang/AbstractStringBuilder") (lv := [some (.ref a)]) (by decide +kernel) rfl (Nat.le_of_ble_eq_true rfl) rfl (fun p_ e_ s_ m_ args_ below_ meth_ c_ hc hnm => ?_)
  refine gw_gets (q := 3) (v := .int (iI 1)) hc dJ3_isLatin1_0 rfl q175 (by exact hc.2.2.2.2.2.2.2.2.2.1.1) (fun _ h => h) ?_
  refine gw_if_eq  (q := 6) (t := 17) hc dJ3_isLatin1_3 rfl (by decide) (by omega) (fun c3 => ?_) (fun c3 => ?_)
  · exfalso; omega
  · skip
    refine gw_aload_n (q := 7) hc dJ3_isLatin1_6 rfl rfl xg_0 ?_
    refine gw_get (q := 10) hc dJ3_isLatin1_7 rfl cE_SB 1 (by decide) q185 (fun _ h => h) hG rfl ?_
    refine gw_if_ne  (q := 13) (t := 17) hc dJ3_isLatin1_10 rfl (by decide) (by omega) (fun c10 => ?_) (fun c10 => ?_)
    · exfalso; omega
    · skip
      refine gw_iconst (q := 14) hc dJ3_isLatin1_13 rfl ?_
      refine gw_goto (q := 18) hc dJ3_isLatin1_14 (by decide) ?_
      exact gw_zret hc (by first | exact Or.inl rfl | exact Or.inr rfl | omega) dJ3_isLatin1_18 ⟨_, rfl, ⟨rfl, rfl⟩⟩

set_option maxHeartbeats 4000000 in
theorem m_J3_length {l : Launch} {D : va_G} {X : Nat → Nat} {b0 : Nat} {a vl : Nat} {mb n : Int} {G : gM} (hG : G a = some (sbO vl mb n)) : gMet l D X b0 yJ3_length cJ3_length 1 (some FieldType.int) (rmE 0 0 0) [.ref a] G (eI n G) := by
  refine gm_start (own := "java/lang/AbstractStringBuilder") (lv := [some (.ref a)]) (by decide +kernel) rfl (Nat.le_of_ble_eq_true rfl) rfl (fun p_ e_ s_ m_ args_ below_ meth_ c_ hc hnm => ?_)
  refine gw_aload_n (q := 1) hc dJ3_length_0 rfl rfl xg_0 ?_
  refine gw_get (q := 4) hc dJ3_length_1 rfl cE_SB 3 (by decide) q187 (fun _ h => h) hG rfl ?_
  exact gw_iret hc dJ3_length_4 ⟨_, rfl, ⟨rfl, rfl⟩⟩

theorem ms_J3_length : mSU yJ3_length cJ3_length 1 (some FieldType.int) 0 := ⟨⟨by decide +kernel, by decide +kernel⟩, q1547, q861, q78, q862⟩
set_option maxHeartbeats 4000000 in
theorem m_J4_length {l : Launch} {D : va_G} {X : Nat → Nat} {b0 : Nat} {a vl : Nat} {mb n : Int} {G : gM} (hG : G a = some (sbO vl mb n)) : gMet l D X b0 yJ4_length cJ4_length 1 (some FieldType.int) (rmE 1 0 0) [.ref a] G (eI n G) := by
  refine gm_start (own := "java/lang/StringBuilder") (lv := [some (.ref a)]) (by decide +kernel) rfl (Nat.le_of_ble_eq_true rfl) rfl (fun p_ e_ s_ m_ args_ below_ meth_ c_ hc hnm => ?_)
  refine gw_aload_n (q := 1) hc dJ4_length_0 rfl rfl xg_0 ?_
  refine gw_callSU (q := 4) (bc' := 0) (bs' := 0) (As := []) hc dJ4_length_1 rfl cE_SB q860 q196 ms_J3_length rfl rfl (m_J3_length hG) (rc_o hc cE_SB hG) ⟨Nat.le_of_ble_eq_true rfl, Nat.le_of_ble_eq_true rfl⟩ (Nat.le_of_ble_eq_true rfl) (Nat.le_of_ble_eq_true rfl) (Nat.le_of_ble_eq_true rfl) (goI fun r1 G1 h1 => ?_)
  obtain ⟨rfl, rfl⟩ := h1
  exact gw_iret hc dJ4_length_4 ⟨_, rfl, ⟨rfl, rfl⟩⟩

set_option maxHeartbeats 4000000 in
theorem m_J3_newCapacity {l : Launch} {D : va_G} {X : Nat → Nat} {b0 : Nat} {a vl cap : Nat} {mb n : Int} {f : Int → Int} {G : gM} (hG : G a = some (sbO vl mb n)) (hV : G vl = some (bA D cap f)) {m : Int} (hc0 : 0 < cap) (hm : cap < m ∧ m ≤ 90) : gMet l D X b0 yJ3_newCapacity cJ3_newCapacity 6 (some FieldType.int) (rmE 2 0 0) [.ref a, .int (iI m)] G (pI fun r G' => (m ≤ r ∧ r ≤ 180 ∧ (cap : Int) < r) ∧ G' = G) := by
  refine gm_start (own := "java/lang/AbstractStringBuilder") (lv := [some (.ref a), some (.int (iI m)), none, none, none, none]) (by decide +kernel) rfl (Nat.le_of_ble_eq_true rfl) rfl (fun p_ e_ s_ m_ args_ below_ meth_ c_ hc hnm => ?_)
  have h0 : 0 < cap ∨ cap = 0 := by omega
  refine gw_aload_n (q := 1) hc dJ3_newCapacity_0 rfl rfl xg_0 ?_
  refine gw_get (q := 4) hc dJ3_newCapacity_1 rfl cE_SB 0 (by decide) q184 (fun _ h => h) hG rfl ?_
  refine gw_alen (q := 5) hc (2) dJ3_newCapacity_4 rfl hV rfl ?_
  refine gw_istore_n (q := 6) hc dJ3_newCapacity_5 rfl rfl xs_2 (by decide) (n2p xg_1 rfl) ?_
  refine gw_iload_n (q := 7) hc dJ3_newCapacity_6 rfl rfl xg_1 ?_
  refine gw_aload_n (q := 8) hc dJ3_newCapacity_7 rfl rfl xg_0 ?_
  refine gw_get (q := 11) hc dJ3_newCapacity_8 rfl cE_SB 1 (by decide) q185 (fun _ h => h) hG rfl ?_
  refine gw_ishl (q := 12) hc dJ3_newCapacity_11 rfl ?_
  rw [shl0]
  refine gw_istore_n (q := 13) hc dJ3_newCapacity_12 rfl rfl xs_3 (by decide) (n2p xg_2 rfl) ?_
  refine gw_iload_n (q := 14) hc dJ3_newCapacity_13 rfl rfl xg_3 ?_
  refine gw_iload_n (q := 15) hc dJ3_newCapacity_14 rfl rfl xg_2 ?_
  refine gw_isub (q := 16) hc dJ3_newCapacity_15 rfl ?_
  refine gw_istore (q := 18) hc dJ3_newCapacity_16 rfl xs_4 (by decide) (n2p xg_3 rfl) ?_
  refine gw_iload_n (q := 19) hc dJ3_newCapacity_18 rfl rfl xg_2 ?_
  refine gw_iload (q := 21) hc dJ3_newCapacity_19 rfl xg_4 ?_
  refine gw_iload_n (q := 22) hc dJ3_newCapacity_21 rfl rfl xg_2 ?_
  refine gw_iconst (q := 23) hc dJ3_newCapacity_22 rfl ?_
  refine gw_aload_n (q := 24) hc dJ3_newCapacity_23 rfl rfl xg_0 ?_
  refine gw_get (q := 27) hc dJ3_newCapacity_24 rfl cE_SB 1 (by decide) q185 (fun _ h => h) hG rfl ?_
  refine gw_ishl (q := 28) hc dJ3_newCapacity_27 rfl ?_
  rw [shl0]
  refine gw_iadd (q := 29) hc dJ3_newCapacity_28 rfl ?_
  refine gw_callS (q := 32) (bc' := 0) (bs' := 0) (As := [_, _, _]) hc dJ3_newCapacity_29 rfl q699 mw_J10_newLength rfl rfl (m_J10_newLength (by omega) (by omega) (by omega)) ⟨Nat.le_of_ble_eq_true rfl, Nat.le_of_ble_eq_true rfl⟩ (Nat.le_of_ble_eq_true rfl) (Nat.le_of_ble_eq_true rfl) (Nat.le_of_ble_eq_true rfl) (goI fun r29 G29 h29 => ?_)
  obtain ⟨rfl, rfl⟩ := h29
  obtain ⟨z, hz, hz2⟩ : ∃ z : Int, (cap : Int) + (if m - (cap : Int) < (cap : Int) + 2 then (cap : Int) + 2 else m - (cap : Int)) = z ∧ (m ≤ z ∧ z ≤ 180 ∧ (cap : Int) < z) := ⟨_, rfl, by split <;> omega⟩
  rw [hz]
  refine gw_istore (q := 34) hc dJ3_newCapacity_32 rfl xs_5 (by decide) (n2p xg_4 rfl) ?_
  refine gw_iload (q := 36) hc dJ3_newCapacity_34 rfl xg_5 ?_
  refine gw_ldc (q := 38) hc dJ3_newCapacity_36 rfl (v := 2147483647) q700 (by decide) ?_
  refine gw_icmp_ne  (q := 41) (t := 51) hc dJ3_newCapacity_38 rfl (by decide) (by omega) (by omega) (fun c38 => ?_) (fun c38 => ?_)
  · skip
    refine gw_iload (q := 53) hc dJ3_newCapacity_51 rfl xg_5 ?_
    refine gw_aload_n (q := 54) hc dJ3_newCapacity_53 rfl rfl xg_0 ?_
    refine gw_get (q := 57) hc dJ3_newCapacity_54 rfl cE_SB 1 (by decide) q185 (fun _ h => h) hG rfl ?_
    refine gw_ishr (q := 58) hc dJ3_newCapacity_57 rfl ?_
    rw [shr0]
    exact gw_iret hc dJ3_newCapacity_58 ⟨_, rfl, ⟨hz2, rfl⟩⟩
  · exfalso; omega

set_option maxHeartbeats 4000000 in
theorem m_J12_copyOf_3 {l : Launch} {D : va_G} {X : Nat → Nat} {b0 : Nat} {vl cap : Nat} {m : Int} {f : Int → Int} {G : gM} (hV : G vl = some (bA D cap f)) (hB : rB f cap) (hm : cap < m ∧ m ≤ 180) : gMet l D X b0 yJ12_copyOf_3 cJ12_copyOf_3 3 (some (FieldType.array FieldType.byte)) (rmE 1 1 180) [.ref vl, .int (iI m)] G (pA fun r G' => G r = none ∧ ∃ f2 : Int → Int, rB f2 m.toNat ∧ (∀ i : Int, 0 ≤ i → i < cap → f2 i = f i) ∧ G' = gup G r (bA D m.toNat f2)) := by
  refine gm_start (own := "java/util/Arrays") (lv := [some (.ref vl), some (.int (iI m)), none]) (by decide +kernel) rfl (Nat.le_of_ble_eq_true rfl) rfl (fun p_ e_ s_ m_ args_ below_ meth_ c_ hc hnm => ?_)
  refine gw_iload_n (q := 1) hc dJ12_copyOf_3_0 rfl rfl xg_1 ?_
  refine gw_aload_n (q := 2) hc dJ12_copyOf_3_1 rfl rfl xg_0 ?_
  refine gw_alen (q := 3) hc (2) dJ12_copyOf_3_2 rfl hV rfl ?_
  refine gw_icmp_ne  (q := 6) (t := 14) hc dJ12_copyOf_3_3 rfl (by decide) (by omega) (by omega) (fun c3 => ?_) (fun c3 => ?_)
  · skip
    obtain ⟨k, rfl⟩ : ∃ k : Nat, m = k := ⟨m.toNat, by omega⟩
    refine gw_iload_n (q := 15) hc dJ12_copyOf_3_14 rfl rfl xg_1 ?_
    refine gw_newb (q := 17) (n := k) hc dJ12_copyOf_3_15 rfl q197 (by omega) (bc' := 0) (bs' := 0) (Nat.le_of_ble_eq_true rfl) (by show 0 + k ≤ 180; omega) (fun x hnx hbx => ?_)
    refine gw_astore_n (q := 18) hc dJ12_copyOf_3_17 rfl rfl xs_2 (by decide) (n2p xg_1 rfl) ?_
    refine gw_aload_n (q := 19) hc dJ12_copyOf_3_18 rfl rfl xg_0 ?_
    refine gw_iconst (q := 20) hc dJ12_copyOf_3_19 rfl ?_
    refine gw_aload_n (q := 21) hc dJ12_copyOf_3_20 rfl rfl xg_2 ?_
    refine gw_iconst (q := 22) hc dJ12_copyOf_3_21 rfl ?_
    refine gw_aload_n (q := 23) hc dJ12_copyOf_3_22 rfl rfl xg_0 ?_
    refine gw_alen (q := 24) hc (2) dJ12_copyOf_3_23 rfl (gup_k hV hnx) rfl ?_
    refine gw_iload_n (q := 25) hc dJ12_copyOf_3_24 rfl rfl xg_1 ?_
    refine gw_mmin (q := 28) hc dJ12_copyOf_3_25 rfl q403 (by omega) (by omega) (Nat.le_of_ble_eq_true rfl) (Nat.le_of_ble_eq_true rfl) ?_
    rw [if_neg (by omega)]
    refine gw_copyb (q := 31) hc dJ12_copyOf_3_28 rfl q406 q262 q261 q85 (gup_k hV hnx) gup_s ⟨by omega, by omega⟩ ⟨by omega, by omega⟩ (by omega) ⟨by omega, by omega⟩ (fun i a b => by rw [show (0 : Int) + i = i by omega]; exact hB i a b) (Nat.le_of_ble_eq_true rfl) (Nat.le_of_ble_eq_true rfl) ?_
    refine gw_G gup_gup ?_
    refine gw_aload_n (q := 32) hc dJ12_copyOf_3_31 rfl rfl xg_2 ?_
    exact gw_aret hc rfl (by first | exact Or.inl ⟨_, rfl⟩ | exact Or.inr ⟨_, rfl⟩) dJ12_copyOf_3_32 ⟨_, rfl, ⟨hnx, _, fun i a b => by (show -128 ≤ (if 0 ≤ i ∧ i < 0 + (cap : Int) then f (0 + (i - 0)) else 0) ∧ (if 0 ≤ i ∧ i < 0 + (cap : Int) then f (0 + (i - 0)) else 0) < 128); by_cases h : 0 ≤ i ∧ i < 0 + (cap : Int); (rw [if_pos h, show (0 : Int) + (i - 0) = i by omega]; exact hB i a (by omega)); (rw [if_neg h]; omega), fun i a b => by show (if 0 ≤ i ∧ i < 0 + (cap : Int) then f (0 + (i - 0)) else 0) = f i; rw [if_pos (by omega), show (0 : Int) + (i - 0) = i by omega], rfl⟩⟩
  · exfalso; omega

theorem mp_J3_newCapacity : mP yJ3_newCapacity cJ3_newCapacity 6 (some FieldType.int) 1 := ⟨⟨by decide +kernel, by decide +kernel, by decide +kernel⟩, q1539, q696, q697, q78, q698⟩
theorem mw_J12_copyOf_3 : mS yJ12_copyOf_3 cJ12_copyOf_3 3 (some (FieldType.array FieldType.byte)) 2 := ⟨⟨by decide +kernel, by decide +kernel, by decide +kernel⟩, q702, q90, q703⟩
set_option maxHeartbeats 4000000 in
theorem m_J3_ensureCapacityInternal {l : Launch} {D : va_G} {X : Nat → Nat} {b0 : Nat} {a vl cap : Nat} {mb n : Int} {f : Int → Int} {G : gM} (hG : G a = some (sbO vl mb n)) (hV : G vl = some (bA D cap f)) {m : Int} (hB : rB f cap) (hc0 : 0 < cap ∧ cap ≤ 180) (hm : 0 ≤ m ∧ m ≤ 90) : gMet l D X b0 yJ3_ensureCapacityInternal cJ3_ensureCapacityInternal 3 none (rmE 3 1 180) [.ref a, .int (iI m)] G (pV fun G' => ∃ (vl' cap' : Nat) (f' : Int → Int), (vl' = vl ∨ G vl' = none) ∧ (m ≤ cap' ∧ cap ≤ cap' ∧ cap' ≤ 180) ∧ rB f' cap' ∧ (∀ i : Int, 0 ≤ i → i < cap → f' i = f i) ∧ G' = gup (gup G vl' (bA D cap' f')) a (sbO vl' mb n)) := by
  refine gm_start (own := "java/lang/AbstractStringBuilder") (lv := [some (.ref a), some (.int (iI m)), none]) (by decide +kernel) rfl (Nat.le_of_ble_eq_true rfl) rfl (fun p_ e_ s_ m_ args_ below_ meth_ c_ hc hnm => ?_)
  refine gw_aload_n (q := 1) hc dJ3_ensureCapacityInternal_0 rfl rfl xg_0 ?_
  refine gw_get (q := 4) hc dJ3_ensureCapacityInternal_1 rfl cE_SB 0 (by decide) q184 (fun _ h => h) hG rfl ?_
  refine gw_alen (q := 5) hc (2) dJ3_ensureCapacityInternal_4 rfl hV rfl ?_
  refine gw_aload_n (q := 6) hc dJ3_ensureCapacityInternal_5 rfl rfl xg_0 ?_
  refine gw_get (q := 9) hc dJ3_ensureCapacityInternal_6 rfl cE_SB 1 (by decide) q185 (fun _ h => h) hG rfl ?_
  refine gw_ishr (q := 10) hc dJ3_ensureCapacityInternal_9 rfl ?_
  rw [shr0]
  refine gw_istore_n (q := 11) hc dJ3_ensureCapacityInternal_10 rfl rfl xs_2 (by decide) (n2p xg_1 rfl) ?_
  refine gw_iload_n (q := 12) hc dJ3_ensureCapacityInternal_11 rfl rfl xg_1 ?_
  refine gw_iload_n (q := 13) hc dJ3_ensureCapacityInternal_12 rfl rfl xg_2 ?_
  refine gw_isub (q := 14) hc dJ3_ensureCapacityInternal_13 rfl ?_
  refine gw_if_le  (q := 17) (t := 38) hc dJ3_ensureCapacityInternal_14 rfl (by decide) (by omega) (fun c14 => ?_) (fun c14 => ?_)
  · skip
    exact gw_vret hc dJ3_ensureCapacityInternal_38 ⟨rfl, ⟨vl, cap, f, Or.inl rfl, ⟨by omega, by omega, by omega⟩, hB, fun _ _ _ => rfl, by rw [gup_id hV, gup_id hG]⟩⟩
  · skip
    refine gw_aload_n (q := 18) hc dJ3_ensureCapacityInternal_17 rfl rfl xg_0 ?_
    refine gw_aload_n (q := 19) hc dJ3_ensureCapacityInternal_18 rfl rfl xg_0 ?_
    refine gw_get (q := 22) hc dJ3_ensureCapacityInternal_19 rfl cE_SB 0 (by decide) q184 (fun _ h => h) hG rfl ?_
    refine gw_aload_n (q := 23) hc dJ3_ensureCapacityInternal_22 rfl rfl xg_0 ?_
    refine gw_iload_n (q := 24) hc dJ3_ensureCapacityInternal_23 rfl rfl xg_1 ?_
    refine gw_callUP (q := 27) (bc' := 1) (bs' := 180) (As := [_]) hc dJ3_ensureCapacityInternal_24 rfl q695 mp_J3_newCapacity rfl rfl (m_J3_newCapacity hG hV hc0.1 (by omega)) (rc_o hc cE_SB hG) ⟨Nat.le_of_ble_eq_true rfl, Nat.le_of_ble_eq_true rfl⟩ (Nat.le_of_ble_eq_true rfl) (Nat.le_of_ble_eq_true rfl) (Nat.le_of_ble_eq_true rfl) (goI fun r24 G24 h24 => ?_)
    obtain ⟨hr24, hgg⟩ := h24
    rw [hgg]
    refine gw_aload_n (q := 28) hc dJ3_ensureCapacityInternal_27 rfl rfl xg_0 ?_
    refine gw_get (q := 31) hc dJ3_ensureCapacityInternal_28 rfl cE_SB 1 (by decide) q185 (fun _ h => h) hG rfl ?_
    refine gw_ishl (q := 32) hc dJ3_ensureCapacityInternal_31 rfl ?_
    rw [shl0]
    refine gw_callS (q := 35) (bc' := 0) (bs' := 0) (As := [_, _]) hc dJ3_ensureCapacityInternal_32 rfl q701 mw_J12_copyOf_3 rfl rfl (m_J12_copyOf_3 hV hB (by omega)) ⟨Nat.le_of_ble_eq_true rfl, Nat.le_of_ble_eq_true rfl⟩ (Nat.le_of_ble_eq_true rfl) (Nat.le_of_ble_eq_true rfl) (Nat.le_of_ble_eq_true rfl) (goA fun r32 G32 h32 => ?_)
    obtain ⟨hnr, f2, hB2, hf2, hgg2⟩ := h32
    rw [hgg2]
    have hG2 := gup_k (e' := bA D r24.toNat f2) hG hnr
    refine gw_put (q := 38) hc dJ3_ensureCapacityInternal_35 rfl cE_SB 0 (by decide) q184 (fun _ h => h) rfl hG2 ⟨rfl, rfl⟩ rfl (Nat.le_of_ble_eq_true rfl) ?_
    exact gw_vret hc dJ3_ensureCapacityInternal_38 ⟨rfl, ⟨r32, r24.toNat, f2, Or.inr hnr, ⟨by omega, by omega, by omega⟩, hB2, hf2, rfl⟩⟩

set_option maxHeartbeats 4000000 in
theorem m_J3_ensureCapacityInternal_0 {l : Launch} {D : va_G} {X : Nat → Nat} {b0 : Nat} {a vl cap : Nat} {mb n : Int} {f : Int → Int} {G : gM} (hG : G a = some (sbO vl mb n)) (hV : G vl = some (bA D cap f)) {m : Int} (hc0 : 0 < cap ∧ cap ≤ 180) (hm : 0 ≤ m ∧ m ≤ cap) : gMet l D X b0 yJ3_ensureCapacityInternal cJ3_ensureCapacityInternal 3 none (rmE 0 0 0) [.ref a, .int (iI m)] G (eV G) := by
  refine gm_start (own := "java/lang/AbstractStringBuilder") (lv := [some (.ref a), some (.int (iI m)), none]) (by decide +kernel) rfl (Nat.le_of_ble_eq_true rfl) rfl (fun p_ e_ s_ m_ args_ below_ meth_ c_ hc hnm => ?_)
  refine gw_aload_n (q := 1) hc dJ3_ensureCapacityInternal_0 rfl rfl xg_0 ?_
  refine gw_get (q := 4) hc dJ3_ensureCapacityInternal_1 rfl cE_SB 0 (by decide) q184 (fun _ h => h) hG rfl ?_
  refine gw_alen (q := 5) hc (2) dJ3_ensureCapacityInternal_4 rfl hV rfl ?_
  refine gw_aload_n (q := 6) hc dJ3_ensureCapacityInternal_5 rfl rfl xg_0 ?_
  refine gw_get (q := 9) hc dJ3_ensureCapacityInternal_6 rfl cE_SB 1 (by decide) q185 (fun _ h => h) hG rfl ?_
  refine gw_ishr (q := 10) hc dJ3_ensureCapacityInternal_9 rfl ?_
  rw [shr0]
  refine gw_istore_n (q := 11) hc dJ3_ensureCapacityInternal_10 rfl rfl xs_2 (by decide) (n2p xg_1 rfl) ?_
  refine gw_iload_n (q := 12) hc dJ3_ensureCapacityInternal_11 rfl rfl xg_1 ?_
  refine gw_iload_n (q := 13) hc dJ3_ensureCapacityInternal_12 rfl rfl xg_2 ?_
  refine gw_isub (q := 14) hc dJ3_ensureCapacityInternal_13 rfl ?_
  refine gw_if_le  (q := 17) (t := 38) hc dJ3_ensureCapacityInternal_14 rfl (by decide) (by omega) (fun c14 => ?_) (fun c14 => ?_)
  · skip
    exact gw_vret hc dJ3_ensureCapacityInternal_38 ⟨rfl, rfl⟩
  · exfalso; omega

set_option maxHeartbeats 4000000 in
theorem m_J13_canEncode {l : Launch} {D : va_G} {X : Nat → Nat} {b0 : Nat} {z : Int} {G : gM} (hz : 0 ≤ z ∧ z ≤ 255) : gMet l D X b0 yJ13_canEncode cJ13_canEncode 1 (some FieldType.boolean) (rmE 0 0 0) [.int (iI z)] G (eI 1 G) := by
  refine gm_start (own := "java/lang/StringLatin1") (lv := [some (.int (iI z))]) (by decide +kernel) rfl (Nat.le_of_ble_eq_true rfl) rfl (fun p_ e_ s_ m_ args_ below_ meth_ c_ hc hnm => ?_)
  refine gw_iload_n (q := 1) hc dJ13_canEncode_0 rfl rfl xg_0 ?_
  refine gw_sipush (q := 4) hc dJ13_canEncode_1 rfl (by decide) ?_
  refine gw_icmp_gt  (q := 7) (t := 11) hc dJ13_canEncode_4 rfl (by decide) (by omega) (by omega) (fun c4 => ?_) (fun c4 => ?_)
  · exfalso; omega
  · skip
    refine gw_iconst (q := 8) hc dJ13_canEncode_7 rfl ?_
    refine gw_goto (q := 12) hc dJ13_canEncode_8 (by decide) ?_
    exact gw_zret hc (by first | exact Or.inl rfl | exact Or.inr rfl | omega) dJ13_canEncode_12 ⟨_, rfl, ⟨rfl, rfl⟩⟩

theorem mp_J3_ensureCapacityInternal : mP yJ3_ensureCapacityInternal cJ3_ensureCapacityInternal 3 none 1 := ⟨⟨by decide +kernel, by decide +kernel, by decide +kernel⟩, q1538, q692, q693, q78, q694⟩
theorem mu_J3_isLatin1_8 : mU "java/lang/StringBuilder" yJ3_isLatin1 cJ3_isLatin1 1 (some FieldType.boolean) 0 := ⟨⟨by decide +kernel, by decide +kernel, by decide +kernel⟩, q713, q714, q712, q78, q715⟩
theorem mw_J13_canEncode : mS yJ13_canEncode cJ13_canEncode 1 (some FieldType.boolean) 1 := ⟨⟨by decide +kernel, by decide +kernel, by decide +kernel⟩, q737, q92, q738⟩
set_option maxHeartbeats 4000000 in
theorem m_J3_append {l : Launch} {D : va_G} {X : Nat → Nat} {b0 : Nat} {a vl cap : Nat} {mb n : Int} {f : Int → Int} {G : gM} (hG : G a = some (sbO vl mb n)) (hV : G vl = some (bA D cap f)) (hB : rB f cap) (hc0 : 0 < cap ∧ cap ≤ 180) {z : Int} (hz : 0 ≤ z ∧ z < 128) (hn : 0 ≤ n ∧ n ≤ cap ∧ n < 80) (hmb : mb = 0 ∨ mb = 1) : gMet l D X b0 yJ3_append cJ3_append 2 (some (FieldType.object "java/lang/AbstractStringBuilder")) (rmE 4 1 180) [.ref a, .int (iI z)] G (pA fun r G' => r = a ∧ apP D G a vl (n + 1) (fu f n z) G') := by
  refine gm_start (own := "java/lang/AbstractStringBuilder") (lv := [some (.ref a), some (.int (iI z))]) (by decide +kernel) rfl (Nat.le_of_ble_eq_true rfl) rfl (fun p_ e_ s_ m_ args_ below_ meth_ c_ hc hnm => ?_)
  refine gw_aload_n (q := 1) hc dJ3_append_0 rfl rfl xg_0 ?_
  refine gw_aload_n (q := 2) hc dJ3_append_1 rfl rfl xg_0 ?_
  refine gw_get (q := 5) hc dJ3_append_2 rfl cE_SB 3 (by decide) q187 (fun _ h => h) hG rfl ?_
  refine gw_iconst (q := 6) hc dJ3_append_5 rfl ?_
  refine gw_iadd (q := 7) hc dJ3_append_6 rfl ?_
  refine gw_callUP (q := 10) (bc' := 0) (bs' := 0) (As := [_]) hc dJ3_append_7 rfl q691 mp_J3_ensureCapacityInternal rfl rfl (m_J3_ensureCapacityInternal hG hV hB hc0 (by omega)) (rc_o hc cE_SB hG) ⟨Nat.le_of_ble_eq_true rfl, Nat.le_of_ble_eq_true rfl⟩ (Nat.le_of_ble_eq_true rfl) (Nat.le_of_ble_eq_true rfl) (Nat.le_of_ble_eq_true rfl) (goV fun G7 h7 => ?_)
  obtain ⟨vl2, cap2, f2, hv2, hb2, hB2, hf2, hgg⟩ := h7
  rw [hgg]
  have hva : vl2 ≠ a := by rcases hv2 with h | h; (rw [h]; exact sb_ne hG hV); exact (fun z => by rw [z, hG] at h; cases h)
  have hV2 : gup (gup G vl2 (bA D cap2 f2)) a (sbO vl2 mb n) vl2 = some (bA D cap2 f2) := by rw [gup_n hva, gup_s]
  refine gw_aload_n (q := 11) hc dJ3_append_10 rfl rfl xg_0 ?_
  refine gw_callU (q := 14) (bc' := 0) (bs' := 0) (As := []) hc dJ3_append_11 rfl q711 mu_J3_isLatin1_8 rfl rfl (m_J3_isLatin1 gup_s) (rc_o hc cE_SB gup_s) ⟨Nat.le_of_ble_eq_true rfl, Nat.le_of_ble_eq_true rfl⟩ (Nat.le_of_ble_eq_true rfl) (Nat.le_of_ble_eq_true rfl) (Nat.le_of_ble_eq_true rfl) (goI fun r11 G11 h11 => ?_)
  obtain ⟨rfl, rfl⟩ := h11
  refine gw_if_eq  (q := 17) (t := 45) hc dJ3_append_14 rfl (by decide) (by omega) (fun c14 => ?_) (fun c14 => ?_)
  · exfalso; omega
  · skip
    refine gw_iload_n (q := 18) hc dJ3_append_17 rfl rfl xg_1 ?_
    refine gw_callS (q := 21) (bc' := 0) (bs' := 0) (As := [_]) hc dJ3_append_18 rfl q736 mw_J13_canEncode rfl rfl (m_J13_canEncode (by omega)) ⟨Nat.le_of_ble_eq_true rfl, Nat.le_of_ble_eq_true rfl⟩ (Nat.le_of_ble_eq_true rfl) (Nat.le_of_ble_eq_true rfl) (Nat.le_of_ble_eq_true rfl) (goI fun r18 G18 h18 => ?_)
    obtain ⟨rfl, rfl⟩ := h18
    refine gw_if_eq  (q := 24) (t := 45) hc dJ3_append_21 rfl (by decide) (by omega) (fun c21 => ?_) (fun c21 => ?_)
    · exfalso; omega
    · skip
      refine gw_aload_n (q := 25) hc dJ3_append_24 rfl rfl xg_0 ?_
      refine gw_get (q := 28) hc dJ3_append_25 rfl cE_SB 0 (by decide) q184 (fun _ h => h) gup_s rfl ?_
      refine gw_aload_n (q := 29) hc dJ3_append_28 rfl rfl xg_0 ?_
      refine gw_dup (q := 30) hc dJ3_append_29 rfl rfl ?_
      refine gw_get (q := 33) hc dJ3_append_30 rfl cE_SB 3 (by decide) q187 (fun _ h => h) gup_s rfl ?_
      refine gw_dup_x1 (q := 34) hc dJ3_append_33 rfl rfl rfl ?_
      refine gw_iconst (q := 35) hc dJ3_append_34 rfl ?_
      refine gw_iadd (q := 36) hc dJ3_append_35 rfl ?_
      refine gw_put (q := 39) hc dJ3_append_36 rfl cE_SB 3 (by decide) q187 (fun _ h => h) rfl gup_s ⟨rfl, rfl⟩ rfl (Nat.le_of_ble_eq_true rfl) ?_
      refine gw_iload_n (q := 40) hc dJ3_append_39 rfl rfl xg_1 ?_
      refine gw_i2b (q := 41) hc dJ3_append_40 rfl (by omega) ?_
      refine gw_bast (q := 42) hc dJ3_append_41 rfl ((gup_n hva).trans hV2) (by omega) (by omega) (by omega) ?_
      refine gw_G (sb_g1 hva) ?_
      refine gw_goto (q := 75) hc dJ3_append_42 (by decide) ?_
      refine gw_aload_n (q := 76) hc dJ3_append_75 rfl rfl xg_0 ?_
      exact gw_aret hc rfl (by first | exact Or.inl ⟨_, rfl⟩ | exact Or.inr ⟨_, rfl⟩) dJ3_append_76 ⟨_, rfl, ⟨rfl, vl2, mb, cap2, _, hv2, ⟨by omega, by omega, by omega, by omega⟩, hmb, rB_fu hB2 (by omega), fun i a b => by by_cases e : i = n; (rw [e, fu_s, fu_s]); (rw [fu_n e, fu_n e]; exact hf2 i a (by omega)), rfl⟩⟩

theorem ms_J3_append : mSU yJ3_append cJ3_append 2 (some (FieldType.object "java/lang/AbstractStringBuilder")) 1 := ⟨⟨by decide +kernel, by decide +kernel⟩, q1540, q734, q78, q735⟩
set_option maxHeartbeats 4000000 in
theorem m_J4_append {l : Launch} {D : va_G} {X : Nat → Nat} {b0 : Nat} {tg : Nat → Nat} {pid a : Nat} {n : Int} {F : Int → Int} {G : gM} (hR : sbR D tg pid a n F G) {z : Int} (hz : 0 ≤ z ∧ z < 128) (hn : n < 80) : gMet l D X b0 yJ4_append cJ4_append 2 (some (FieldType.object "java/lang/StringBuilder")) (rmE 5 1 180) [.ref a, .int (iI z)] G (pA fun r G' => r = a ∧ ∃ tg' : Nat → Nat, tgR tg tg' pid G G' ∧ sbR D tg' pid a (n + 1) (fu F n z) G') := by
  refine gm_start (own := "java/lang/StringBuilder") (lv := [some (.ref a), some (.int (iI z))]) (by decide +kernel) rfl (Nat.le_of_ble_eq_true rfl) rfl (fun p_ e_ s_ m_ args_ below_ meth_ c_ hc hnm => ?_)
  obtain ⟨vl, mb, cap, f, hG, hV, ht, hb, hmb, hB, hf⟩ := hR
  refine gw_aload_n (q := 1) hc dJ4_append_0 rfl rfl xg_0 ?_
  refine gw_iload_n (q := 2) hc dJ4_append_1 rfl rfl xg_1 ?_
  refine gw_callSU (q := 5) (bc' := 0) (bs' := 0) (As := [_]) hc dJ4_append_2 rfl cE_SB q733 q196 ms_J3_append rfl rfl (m_J3_append hG hV hB (by omega) hz (by omega) hmb) (rc_o hc cE_SB hG) ⟨Nat.le_of_ble_eq_true rfl, Nat.le_of_ble_eq_true rfl⟩ (Nat.le_of_ble_eq_true rfl) (Nat.le_of_ble_eq_true rfl) (Nat.le_of_ble_eq_true rfl) (goA fun r2 G2 h2 => ?_)
  obtain ⟨-, hap⟩ := h2
  refine gw_pop (q := 6) hc dJ4_append_5 rfl rfl ?_
  refine gw_aload_n (q := 7) hc dJ4_append_6 rfl rfl xg_0 ?_
  exact gw_aret hc rfl (by first | exact Or.inl ⟨_, rfl⟩ | exact Or.inr ⟨_, rfl⟩) dJ4_append_7 ⟨_, rfl, ⟨rfl, ap_R hG hV ht hap (fun i a b => by by_cases e : i = n; (rw [e, fu_s, fu_s]); (rw [fu_n e, fu_n e]; exact hf i a (by omega)))⟩⟩

set_option maxHeartbeats 4000000 in
theorem m_J3_setLength {l : Launch} {D : va_G} {X : Nat → Nat} {b0 : Nat} {a vl cap : Nat} {mb n : Int} {f : Int → Int} {G : gM} (hG : G a = some (sbO vl mb n)) (hV : G vl = some (bA D cap f)) (hB : rB f cap) (hc0 : 0 < cap ∧ cap ≤ 180) (hn : 0 ≤ n ∧ n ≤ cap) (hmb : mb = 0 ∨ mb = 1) : gMet l D X b0 yJ3_setLength cJ3_setLength 2 none (rmE 1 0 0) [.ref a, .int (iI 0)] G (pV fun G' => ∃ mb2 : Int, (mb2 = 0 ∨ mb2 = 1) ∧ G' = gup G a (sbO vl mb2 0)) := by
  refine gm_start (own := "java/lang/AbstractStringBuilder") (lv := [some (.ref a), some (.int (iI 0))]) (by decide +kernel) rfl (Nat.le_of_ble_eq_true rfl) rfl (fun p_ e_ s_ m_ args_ below_ meth_ c_ hc hnm => ?_)
  refine gw_iload_n (q := 1) hc dJ3_setLength_0 rfl rfl xg_1 ?_
  refine gw_if_ge  (q := 4) (t := 13) hc dJ3_setLength_1 rfl (by decide) (by omega) (fun c1 => ?_) (fun c1 => ?_)
  · skip
    refine gw_aload_n (q := 14) hc dJ3_setLength_13 rfl rfl xg_0 ?_
    refine gw_iload_n (q := 15) hc dJ3_setLength_14 rfl rfl xg_1 ?_
    refine gw_callUP (q := 18) (bc' := 0) (bs' := 0) (As := [_]) hc dJ3_setLength_15 rfl q691 mp_J3_ensureCapacityInternal rfl rfl (m_J3_ensureCapacityInternal_0 hG hV hc0 (by omega)) (rc_o hc cE_SB hG) ⟨Nat.le_of_ble_eq_true rfl, Nat.le_of_ble_eq_true rfl⟩ (Nat.le_of_ble_eq_true rfl) (Nat.le_of_ble_eq_true rfl) (Nat.le_of_ble_eq_true rfl) (goV fun G15 h15 => ?_)
    obtain rfl : G15 = G := h15
    refine gw_aload_n (q := 19) hc dJ3_setLength_18 rfl rfl xg_0 ?_
    refine gw_get (q := 22) hc dJ3_setLength_19 rfl cE_SB 3 (by decide) q187 (fun _ h => h) hG rfl ?_
    refine gw_iload_n (q := 23) hc dJ3_setLength_22 rfl rfl xg_1 ?_
    refine gw_icmp_ge  (q := 26) (t := 63) hc dJ3_setLength_23 rfl (by decide) (by omega) (by omega) (fun c23 => ?_) (fun c23 => ?_)
    · skip
      refine gw_aload_n (q := 64) hc dJ3_setLength_63 rfl rfl xg_0 ?_
      refine gw_get (q := 67) hc dJ3_setLength_64 rfl cE_SB 3 (by decide) q187 (fun _ h => h) hG rfl ?_
      refine gw_iload_n (q := 68) hc dJ3_setLength_67 rfl rfl xg_1 ?_
      refine gw_icmp_le  (q := 71) (t := 76) hc dJ3_setLength_68 rfl (by decide) (by omega) (by omega) (fun c68 => ?_) (fun c68 => ?_)
      · skip
        refine gw_aload_n (q := 77) hc dJ3_setLength_76 rfl rfl xg_0 ?_
        refine gw_iload_n (q := 78) hc dJ3_setLength_77 rfl rfl xg_1 ?_
        refine gw_put (q := 81) hc dJ3_setLength_78 rfl cE_SB 3 (by decide) q187 (fun _ h => h) rfl hG ⟨rfl, rfl⟩ rfl (Nat.le_of_ble_eq_true rfl) ?_
        exact gw_vret hc dJ3_setLength_81 ⟨rfl, ⟨mb, hmb, rfl⟩⟩
      · skip
        refine gw_aload_n (q := 72) hc dJ3_setLength_71 rfl rfl xg_0 ?_
        refine gw_iconst (q := 73) hc dJ3_setLength_72 rfl ?_
        refine gw_put (q := 76) hc dJ3_setLength_73 rfl cE_SB 2 (by decide) q186 (fun _ h => h) rfl hG (nz (by omega)) rfl (Nat.le_of_ble_eq_true rfl) ?_
        refine gw_aload_n (q := 77) hc dJ3_setLength_76 rfl rfl xg_0 ?_
        refine gw_iload_n (q := 78) hc dJ3_setLength_77 rfl rfl xg_1 ?_
        refine gw_put (q := 81) hc dJ3_setLength_78 rfl cE_SB 3 (by decide) q187 (fun _ h => h) rfl gup_s ⟨rfl, rfl⟩ rfl (Nat.le_of_ble_eq_true rfl) ?_
        refine gw_G gup_gup ?_
        exact gw_vret hc dJ3_setLength_81 ⟨rfl, ⟨1, Or.inr rfl, rfl⟩⟩
    · exfalso; omega
  · exfalso; omega

theorem ms_J3_setLength : mSU yJ3_setLength cJ3_setLength 2 none 1 := ⟨⟨by decide +kernel, by decide +kernel⟩, q1537, q689, q78, q690⟩
set_option maxHeartbeats 4000000 in
theorem m_J4_setLength {l : Launch} {D : va_G} {X : Nat → Nat} {b0 : Nat} {tg : Nat → Nat} {pid a : Nat} {n : Int} {F : Int → Int} {G : gM} (hR : sbR D tg pid a n F G) : gMet l D X b0 yJ4_setLength cJ4_setLength 2 none (rmE 2 0 0) [.ref a, .int (iI 0)] G (pV fun G' => tgR tg tg pid G G' ∧ ∀ F2 : Int → Int, sbR D tg pid a 0 F2 G') := by
  refine gm_start (own := "java/lang/StringBuilder") (lv := [some (.ref a), some (.int (iI 0))]) (by decide +kernel) rfl (Nat.le_of_ble_eq_true rfl) rfl (fun p_ e_ s_ m_ args_ below_ meth_ c_ hc hnm => ?_)
  obtain ⟨vl, mb, cap, f, hG, hV, ht, hb, hmb, hB, hf⟩ := hR
  refine gw_aload_n (q := 1) hc dJ4_setLength_0 rfl rfl xg_0 ?_
  refine gw_iload_n (q := 2) hc dJ4_setLength_1 rfl rfl xg_1 ?_
  refine gw_callSU (q := 5) (bc' := 0) (bs' := 0) (As := [_]) hc dJ4_setLength_2 rfl cE_SB q688 q196 ms_J3_setLength rfl rfl (m_J3_setLength hG hV hB ⟨by omega, by omega⟩ (by omega) hmb) (rc_o hc cE_SB hG) ⟨Nat.le_of_ble_eq_true rfl, Nat.le_of_ble_eq_true rfl⟩ (Nat.le_of_ble_eq_true rfl) (Nat.le_of_ble_eq_true rfl) (Nat.le_of_ble_eq_true rfl) (goV fun G2 h2 => ?_)
  obtain ⟨mb2, hmb2, hgg⟩ := h2
  rw [hgg]
  exact gw_vret hc dJ4_setLength_5 ⟨rfl, ⟨tgR_upH tgR_rf (by omega) (by rw [hG]; exact fun z => by cases z), fun F2 => ⟨vl, mb2, cap, f, gup_s, by rw [gup_n (sb_ne hG hV)]; exact hV, ht, ⟨by omega, by omega, by omega, by omega⟩, hmb2, hB, fun i a b => by omega⟩⟩⟩

set_option maxHeartbeats 4000000 in
theorem m_J5_checkIndex {l : Launch} {D : va_G} {X : Nat → Nat} {b0 : Nat} {G : gM} {x y : Int} (hx : 0 ≤ x ∧ x < y) (hy : rI y) : gMet l D X b0 yJ5_checkIndex cJ5_checkIndex 2 none (rmE 1 0 0) [.int (iI x), .int (iI y)] G (eV G) := by
  refine gm_start (own := "java/lang/String") (lv := [some (.int (iI x)), some (.int (iI y))]) (by decide +kernel) rfl (Nat.le_of_ble_eq_true rfl) rfl (fun p_ e_ s_ m_ args_ below_ meth_ c_ hc hnm => ?_)
  refine gw_iload_n (q := 1) hc dJ5_checkIndex_0 rfl rfl xg_0 ?_
  refine gw_iload_n (q := 2) hc dJ5_checkIndex_1 rfl rfl xg_1 ?_
  refine gw_gets (q := 5) (v := .ref (X 5)) hc dJ5_checkIndex_2 rfl q758 (by exact hc.2.2.2.2.2.2.2.2.2.1.2.2.2.2.2.2.2.2.2.2.2.1) (fun _ h => h) ?_
  refine gw_callS (q := 8) (bc' := 0) (bs' := 0) (As := [_, _, _]) hc dJ5_checkIndex_5 rfl q781 mw_J8_checkIndex rfl rfl (m_J8_checkIndex_X hx hy) ⟨Nat.le_of_ble_eq_true rfl, Nat.le_of_ble_eq_true rfl⟩ (Nat.le_of_ble_eq_true rfl) (Nat.le_of_ble_eq_true rfl) (Nat.le_of_ble_eq_true rfl) (goI fun r5 G5 h5 => ?_)
  obtain ⟨rfl, rfl⟩ := h5
  refine gw_pop (q := 9) hc dJ5_checkIndex_8 rfl rfl ?_
  exact gw_vret hc dJ5_checkIndex_9 ⟨rfl, rfl⟩

theorem mw_J5_checkIndex : mS yJ5_checkIndex cJ5_checkIndex 2 none 2 := ⟨⟨by decide +kernel, by decide +kernel, by decide +kernel⟩, q779, q80, q780⟩
set_option maxHeartbeats 4000000 in
theorem m_J3_charAt {l : Launch} {D : va_G} {X : Nat → Nat} {b0 : Nat} {a vl cap : Nat} {mb n : Int} {f : Int → Int} {G : gM} (hG : G a = some (sbO vl mb n)) (hV : G vl = some (bA D cap f)) {i : Int} (hi : 0 ≤ i ∧ i < n) (hn : n ≤ cap ∧ cap ≤ 180) (hf : 0 ≤ f i ∧ f i < 128) : gMet l D X b0 yJ3_charAt cJ3_charAt 5 (some FieldType.char) (rmE 2 0 0) [.ref a, .int (iI i)] G (eI (f i) G) := by
  refine gm_start (own := "java/lang/AbstractStringBuilder") (lv := [some (.ref a), some (.int (iI i)), none, none, none]) (by decide +kernel) rfl (Nat.le_of_ble_eq_true rfl) rfl (fun p_ e_ s_ m_ args_ below_ meth_ c_ hc hnm => ?_)
  refine gw_aload_n (q := 1) hc dJ3_charAt_0 rfl rfl xg_0 ?_
  refine gw_get (q := 4) hc dJ3_charAt_1 rfl cE_SB 1 (by decide) q185 (fun _ h => h) hG rfl ?_
  refine gw_istore_n (q := 5) hc dJ3_charAt_4 rfl rfl xs_2 (by decide) (n2p xg_1 rfl) ?_
  refine gw_aload_n (q := 6) hc dJ3_charAt_5 rfl rfl xg_0 ?_
  refine gw_get (q := 9) hc dJ3_charAt_6 rfl cE_SB 0 (by decide) q184 (fun _ h => h) hG rfl ?_
  refine gw_astore_n (q := 10) hc dJ3_charAt_9 rfl rfl xs_3 (by decide) (n2p xg_2 rfl) ?_
  refine gw_aload_n (q := 11) hc dJ3_charAt_10 rfl rfl xg_0 ?_
  refine gw_get (q := 14) hc dJ3_charAt_11 rfl cE_SB 3 (by decide) q187 (fun _ h => h) hG rfl ?_
  refine gw_aload_n (q := 15) hc dJ3_charAt_14 rfl rfl xg_3 ?_
  refine gw_alen (q := 16) hc (2) dJ3_charAt_15 rfl hV rfl ?_
  refine gw_iload_n (q := 17) hc dJ3_charAt_16 rfl rfl xg_2 ?_
  refine gw_ishr (q := 18) hc dJ3_charAt_17 rfl ?_
  rw [shr0]
  refine gw_mmin (q := 21) hc dJ3_charAt_18 rfl q874 (by omega) (by omega) (Nat.le_of_ble_eq_true rfl) (Nat.le_of_ble_eq_true rfl) ?_
  rw [if_neg (by omega)]
  refine gw_istore (q := 23) hc dJ3_charAt_21 rfl xs_4 (by decide) (n2p xg_3 rfl) ?_
  refine gw_iload_n (q := 24) hc dJ3_charAt_23 rfl rfl xg_1 ?_
  refine gw_iload (q := 26) hc dJ3_charAt_24 rfl xg_4 ?_
  refine gw_callS (q := 29) (bc' := 0) (bs' := 0) (As := [_, _]) hc dJ3_charAt_26 rfl q875 mw_J5_checkIndex rfl rfl (m_J5_checkIndex (by omega) (by omega)) ⟨Nat.le_of_ble_eq_true rfl, Nat.le_of_ble_eq_true rfl⟩ (Nat.le_of_ble_eq_true rfl) (Nat.le_of_ble_eq_true rfl) (Nat.le_of_ble_eq_true rfl) (goV fun G26 h26 => ?_)
  subst h26
  refine gw_iload_n (q := 30) hc dJ3_charAt_29 rfl rfl xg_2 ?_
  refine gw_if_ne  (q := 33) (t := 42) hc dJ3_charAt_30 rfl (by decide) (by omega) (fun c30 => ?_) (fun c30 => ?_)
  · exfalso; omega
  · skip
    refine gw_aload_n (q := 34) hc dJ3_charAt_33 rfl rfl xg_3 ?_
    refine gw_iload_n (q := 35) hc dJ3_charAt_34 rfl rfl xg_1 ?_
    refine gw_bald (q := 36) hc dJ3_charAt_35 rfl hV (by omega) (by omega) ?_
    refine gw_sipush (q := 39) hc dJ3_charAt_36 rfl (by decide) ?_
    refine gw_iand (q := 40) hc dJ3_charAt_39 rfl ?_
    rw [and255 (by omega)]
    refine gw_i2c (q := 41) hc dJ3_charAt_40 rfl (by omega) ?_
    exact gw_cret hc (by omega) dJ3_charAt_41 ⟨_, rfl, ⟨rfl, rfl⟩⟩

theorem ms_J3_charAt : mSU yJ3_charAt cJ3_charAt 5 (some FieldType.char) 1 := ⟨⟨by decide +kernel, by decide +kernel⟩, q1548, q872, q78, q873⟩
set_option maxHeartbeats 4000000 in
theorem m_J4_charAt {l : Launch} {D : va_G} {X : Nat → Nat} {b0 : Nat} {tg : Nat → Nat} {pid a : Nat} {n : Int} {F : Int → Int} {G : gM} (hR : sbR D tg pid a n F G) {i : Int} (hi : 0 ≤ i ∧ i < n) (hf : 0 ≤ F i ∧ F i < 128) : gMet l D X b0 yJ4_charAt cJ4_charAt 2 (some FieldType.char) (rmE 3 0 0) [.ref a, .int (iI i)] G (eI (F i) G) := by
  refine gm_start (own := "java/lang/StringBuilder") (lv := [some (.ref a), some (.int (iI i))]) (by decide +kernel) rfl (Nat.le_of_ble_eq_true rfl) rfl (fun p_ e_ s_ m_ args_ below_ meth_ c_ hc hnm => ?_)
  obtain ⟨vl, mb, cap, f, hG, hV, ht, hb, hmb, hB, hfF⟩ := hR
  have hfi := hfF i (by omega) (by omega)
  refine gw_aload_n (q := 1) hc dJ4_charAt_0 rfl rfl xg_0 ?_
  refine gw_iload_n (q := 2) hc dJ4_charAt_1 rfl rfl xg_1 ?_
  refine gw_callSU (q := 5) (bc' := 0) (bs' := 0) (As := [_]) hc dJ4_charAt_2 rfl cE_SB q871 q196 ms_J3_charAt rfl rfl (m_J3_charAt hG hV hi (by omega) (by rw [hfi]; exact hf)) (rc_o hc cE_SB hG) ⟨Nat.le_of_ble_eq_true rfl, Nat.le_of_ble_eq_true rfl⟩ (Nat.le_of_ble_eq_true rfl) (Nat.le_of_ble_eq_true rfl) (Nat.le_of_ble_eq_true rfl) (goI fun r2 G2 h2 => ?_)
  obtain ⟨er2, rfl⟩ := h2
  have er2b := er2.trans hfi
  subst er2b
  exact gw_cret hc (by omega) dJ4_charAt_5 ⟨_, rfl, ⟨rfl, rfl⟩⟩

theorem ss_nd {v : Int} {i : Nat} (hv : 0 ≤ v) (h : 1 ≤ i ∧ i ≤ 9) (h1 : i = 1 ∨ tp (i - 1) ≤ v) (h2 : v < tp i) : nd v = i := by
  have := nd_of (v := v) (k := i - 1) (by omega) hv (by rcases h1 with h | h; (left; omega); exact Or.inr h) (by
    obtain ⟨j, rfl⟩ : ∃ j, i = j + 1 := ⟨i - 1, by omega⟩
    have hp := tp_p j
    simp only [tp] at h2
    show v / tp j ≤ 9
    have := (Int.ediv_lt_iff_lt_mul hp).mpr (by rw [Int.mul_comm]; exact h2 : v < 10 * tp j)
    omega)
  omega
theorem ss_10 {v : Int} (h1 : tp 9 ≤ v) (h2 : v < 2147483648) : nd v = 10 := by
  have e : tp 9 = 1000000000 := by decide
  unfold nd
  (repeat' split) <;> omega
set_option maxHeartbeats 4000000 in
theorem m_J14_stringSize {l : Launch} {D : va_G} {X : Nat → Nat} {b0 : Nat} {v : Int} {G : gM} (hv : 0 ≤ v ∧ v < 2147483648) : gMet l D X b0 yJ14_stringSize cJ14_stringSize 4 (some FieldType.int) (rmE 0 0 0) [.int (iI v)] G (eI (nd v) G) := by
  refine gm_start (own := "java/lang/Integer") (lv := [some (.int (iI v)), none, none, none]) (by decide +kernel) rfl (Nat.le_of_ble_eq_true rfl) rfl (fun p_ e_ s_ m_ args_ below_ meth_ c_ hc hnm => ?_)
  refine gw_iconst (q := 1) hc dJ14_stringSize_0 rfl ?_
  refine gw_istore_n (q := 2) hc dJ14_stringSize_1 rfl rfl xs_1 (by decide) (n2p xg_0 rfl) ?_
  refine gw_iload_n (q := 3) hc dJ14_stringSize_2 rfl rfl xg_0 ?_
  refine gw_if_lt  (q := 6) (t := 11) hc dJ14_stringSize_3 rfl (by decide) (by omega) (fun c3 => ?_) (fun c3 => ?_)
  · exfalso; omega
  · skip
    refine gw_iconst (q := 7) hc dJ14_stringSize_6 rfl ?_
    refine gw_istore_n (q := 8) hc dJ14_stringSize_7 rfl rfl xs_1 (by decide) (n2p xg_0 rfl) ?_
    refine gw_iload_n (q := 9) hc dJ14_stringSize_8 rfl rfl xg_0 ?_
    refine gw_ineg (q := 10) hc dJ14_stringSize_9 rfl ?_
    refine gw_istore_n (q := 11) hc dJ14_stringSize_10 rfl rfl xs_0 (by decide) (fun _ _ h => absurd h (by decide)) ?_
    refine gw_bipush (q := 13) hc dJ14_stringSize_11 rfl (by decide) ?_
    refine gw_istore_n (q := 14) hc dJ14_stringSize_13 rfl rfl xs_2 (by decide) (n2p xg_1 rfl) ?_
    refine gw_iconst (q := 15) hc dJ14_stringSize_14 rfl ?_
    refine gw_istore_n (q := 16) hc dJ14_stringSize_15 rfl rfl xs_3 (by decide) (n2p xg_2 rfl) ?_
    refine gw_loop (σ := Nat) (fun x => (1 ≤ x ∧ x ≤ 10) ∧ (x = 1 ∨ tp (x - 1) ≤ v)) (fun x => 10 - x) (fun x => G) (fun x => [some (.int (iI (-v))), some (.int (iI 0)), some (.int (iI (-(tp x)))), some (.int (iI (x : Int)))]) ?_ 1 ⟨⟨by omega, by omega⟩, Or.inl rfl⟩
    rintro i hI16 ih16
    try dsimp only at hI16 ⊢
    refine gw_iload_n (q := 17) hc dJ14_stringSize_16 rfl rfl xg_3 ?_
    refine gw_bipush (q := 19) hc dJ14_stringSize_17 rfl (by decide) ?_
    refine gw_icmp_ge  (q := 22) (t := 42) hc dJ14_stringSize_19 rfl (by decide) (by omega) (by omega) (fun c19 => ?_) (fun c19 => ?_)
    · skip
      have h10 : nd v = 10 := ss_10 (by have h := hI16.2; rw [show i = 10 by omega] at h; rcases h with h | h; (omega); (exact h)) hv.2
      refine gw_bipush (q := 44) hc dJ14_stringSize_42 rfl (by decide) ?_
      refine gw_iload_n (q := 45) hc dJ14_stringSize_44 rfl rfl xg_1 ?_
      refine gw_iadd (q := 46) hc dJ14_stringSize_45 rfl ?_
      exact gw_iret hc dJ14_stringSize_46 ⟨_, rfl, ⟨by rw [h10]; omega, rfl⟩⟩
    · skip
      have htp := tp_bd (k := i) (by omega)
      refine gw_iload_n (q := 23) hc dJ14_stringSize_22 rfl rfl xg_0 ?_
      refine gw_iload_n (q := 24) hc dJ14_stringSize_23 rfl rfl xg_2 ?_
      refine gw_icmp_le  (q := 27) (t := 31) hc dJ14_stringSize_24 rfl (by decide) (by omega) (by omega) (fun c24 => ?_) (fun c24 => ?_)
      · skip
        refine gw_bipush (q := 33) hc dJ14_stringSize_31 rfl (by decide) ?_
        refine gw_iload_n (q := 34) hc dJ14_stringSize_33 rfl rfl xg_2 ?_
        refine gw_imul (q := 35) hc dJ14_stringSize_34 rfl ?_
        refine gw_istore_n (q := 36) hc dJ14_stringSize_35 rfl rfl xs_2 (by decide) (n2p xg_1 rfl) ?_
        refine gw_iinc (q := 39) hc dJ14_stringSize_36 rfl xg_3 xs_3 (by decide) (n2p xg_2 rfl) ?_
        refine gw_lv (show _ = [some (.int (iI (-v))), some (.int (iI 0)), some (.int (iI (-(tp (i + 1))))), some (.int (iI ((i + 1 : Nat) : Int)))] from by rw [show (10 : Int) * -tp i = -(tp (i + 1)) by simp only [tp]; omega, show ((i + 1 : Nat) : Int) = (i : Int) + 1 by omega]) ?_
        refine gw_goto (q := 16) hc dJ14_stringSize_39 (by decide) ?_
        exact ih16 (i + 1) ⟨⟨by omega, by omega⟩, Or.inr (by rw [show i + 1 - 1 = i by omega]; omega)⟩ (by omega)
      · skip
        refine gw_iload_n (q := 28) hc dJ14_stringSize_27 rfl rfl xg_3 ?_
        refine gw_iload_n (q := 29) hc dJ14_stringSize_28 rfl rfl xg_1 ?_
        refine gw_iadd (q := 30) hc dJ14_stringSize_29 rfl ?_
        exact gw_iret hc dJ14_stringSize_30 ⟨_, rfl, ⟨by rw [ss_nd (i := i) hv.1 (by omega) hI16.2 (by omega)]; omega, rfl⟩⟩

theorem gc_w {v n u : Int} {j N : Nat} {f g : Int → Int} (hu : u = v / tp j) (hg : ∀ p, 0 ≤ p → p < n + N → g p = if n + N - j ≤ p then 48 + v / tp (n + N - 1 - p).toNat % 10 else f p) (hj : j + 2 ≤ N) {p : Int} (h0 : 0 ≤ p) (h1 : p < n + N) : fu (fu g (n + N - j - 1) (48 + u % 10)) (n + N - j - 2) (48 + u / 10 % 10) p = if n + N - (j + 2 : Nat) ≤ p then 48 + v / tp (n + N - 1 - p).toNat % 10 else f p := by
  by_cases e2 : p = n + N - j - 2
  · rw [e2, fu_s, if_pos (by omega), show (n + N - 1 - (n + N - j - 2)).toNat = j + 1 by omega, tp_d, hu]
  · rw [fu_n e2]
    by_cases e1 : p = n + N - j - 1
    · rw [e1, fu_s, if_pos (by omega), show (n + N - 1 - (n + N - j - 1)).toNat = j by omega, hu]
    · rw [fu_n e1, hg p h0 h1]
      by_cases h : n + N - j ≤ p
      · rw [if_pos h, if_pos (by omega)]
      · rw [if_neg h, if_neg (by omega)]
theorem gc_2 {v n u : Int} {j N : Nat} {f g : Int → Int} (hu : u = v / tp j) (hg : ∀ p, 0 ≤ p → p < n + N → g p = if n + N - j ≤ p then 48 + v / tp (n + N - 1 - p).toNat % 10 else f p) (hj : j + 2 = N) (hN : decL v = decK v N) {p : Int} (h0 : 0 ≤ p) (h1 : p < n + N) : fu (fu g (n + N - j - 1) (48 + u % 10)) (n + N - j - 2) (48 + u / 10 % 10) p = wr f n (decL v) p := by
  rw [gc_w hu hg (by omega) h0 h1, hN, wr_at]
  by_cases h : n ≤ p
  · rw [if_pos (by omega), if_pos (by omega), show (n + N - 1 - p).toNat = N - 1 - (p - n).toNat by omega]
  · rw [if_neg (by omega), if_neg (by omega)]
theorem gc_1 {v n u : Int} {j N : Nat} {f g : Int → Int} (hu : u = v / tp j) (hg : ∀ p, 0 ≤ p → p < n + N → g p = if n + N - j ≤ p then 48 + v / tp (n + N - 1 - p).toNat % 10 else f p) (hj : j + 1 = N) (hN : decL v = decK v N) {p : Int} (h0 : 0 ≤ p) (h1 : p < n + N) : fu g (n + N - j - 1) (48 + u % 10) p = wr f n (decL v) p := by
  rw [hN, wr_at]
  by_cases e1 : p = n + N - j - 1
  · rw [e1, fu_s, if_pos (by omega), show N - 1 - (n + N - j - 1 - n).toNat = j by omega, hu]
  · rw [fu_n e1, hg p h0 h1]
    by_cases h : n ≤ p
    · rw [if_pos (by omega), if_pos (by omega), show (n + N - 1 - p).toNat = N - 1 - (p - n).toNat by omega]
    · rw [if_neg (by omega), if_neg (by omega)]
theorem nd_lo {u : Int} (h : 0 ≤ u) : (u < 10 → nd u = 1) ∧ (10 ≤ u → u < 100 → nd u = 2) := by
  unfold nd
  constructor
  · intro h; rw [if_pos h]
  · intro h1 h2; rw [if_neg (by omega), if_pos h2]
set_option maxHeartbeats 4000000 in
theorem m_J14_getChars {l : Launch} {D : va_G} {X : Nat → Nat} {b0 : Nat} {vl cap : Nat} {v n : Int} {f : Int → Int} {G : gM} (hV : G vl = some (bA D cap f)) (hB : rB f cap) (hv : 0 ≤ v ∧ v < 2147483648) (hn : 0 ≤ n ∧ n + nd v ≤ cap ∧ cap ≤ 180) : gMet l D X b0 yJ14_getChars cJ14_getChars 7 (some FieldType.int) (rmE 0 0 0) [.int (iI v), .int (iI (n + nd v)), .ref vl] G (pI fun r G' => ∃ f2 : Int → Int, rB f2 cap ∧ (∀ i, 0 ≤ i → i < n + nd v → f2 i = wr f n (decL v) i) ∧ G' = gup G vl (bA D cap f2)) := by
  refine gm_start (own := "java/lang/Integer") (lv := [some (.int (iI v)), some (.int (iI (n + nd v))), some (.ref vl), none, none, none, none]) (by decide +kernel) rfl (Nat.le_of_ble_eq_true rfl) rfl (fun p_ e_ s_ m_ args_ below_ meth_ c_ hc hnm => ?_)
  refine gw_iload_n (q := 1) hc dJ14_getChars_0 rfl rfl xg_1 ?_
  refine gw_istore (q := 3) hc dJ14_getChars_1 rfl xs_5 (by decide) (n2p xg_4 rfl) ?_
  refine gw_iload_n (q := 4) hc dJ14_getChars_3 rfl rfl xg_0 ?_
  refine gw_if_ge  (q := 7) (t := 11) hc dJ14_getChars_4 rfl (by decide) (by omega) (fun c4 => ?_) (fun c4 => ?_)
  · skip
    refine gw_iconst (q := 12) hc dJ14_getChars_11 rfl ?_
    refine gw_istore (q := 14) hc dJ14_getChars_12 rfl xs_6 (by decide) (n2p xg_5 rfl) ?_
    refine gw_iload (q := 16) hc dJ14_getChars_14 rfl xg_6 ?_
    refine gw_if_ne  (q := 19) (t := 22) hc dJ14_getChars_16 rfl (by decide) (by omega) (fun c16 => ?_) (fun c16 => ?_)
    · exfalso; omega
    · skip
      refine gw_iload_n (q := 20) hc dJ14_getChars_19 rfl rfl xg_0 ?_
      refine gw_ineg (q := 21) hc dJ14_getChars_20 rfl ?_
      refine gw_istore_n (q := 22) hc dJ14_getChars_21 rfl rfl xs_0 (by decide) (fun _ _ h => absurd h (by decide)) ?_
      refine gw_G (gup_id hV).symm ?_
      refine gw_lv (show _ = [some (.int (iI (-v))), some (.int (iI (n + nd v))), some (.ref vl), none, none, some (.int (iI (n + nd v - ((0 : Nat) : Int)))), some (.int (iI 0))] from by rw [show n + (nd v : Int) - ((0 : Nat) : Int) = n + nd v by omega]) ?_
      refine gw_loop (σ := Nat × Int × (Int → Int)) (fun x => ((0 ≤ x.2.1 ∧ x.2.1 ≤ v) ∧ rB x.2.2 cap) ∧ x.2.1 = v / tp x.1 ∧ x.1 + nd x.2.1 = nd v ∧ (∀ p, 0 ≤ p → p < n + nd v → x.2.2 p = if n + nd v - x.1 ≤ p then 48 + v / tp (n + nd v - 1 - p).toNat % 10 else f p)) (fun x => x.2.1.toNat) (fun x => gup G vl (bA D cap x.2.2)) (fun x => [some (.int (iI (-x.2.1))), some (.int (iI (n + nd v))), some (.ref vl), none, none, some (.int (iI (n + nd v - x.1))), some (.int (iI 0))]) ?_ ⟨0, v, f⟩ ⟨⟨⟨by dsimp only; omega, by dsimp only; omega⟩, hB⟩, by simp [tp], by dsimp only; omega, fun p _ h => by dsimp only; rw [if_neg (by omega)]⟩
      rintro ⟨j, u, g⟩ hI22 ih22
      try dsimp only at hI22 ⊢
      have hub : u < 2147483648 := by omega
      have hndu := nd_lo hI22.1.1.1
      have hnv := nd_bd (v := v)
      refine gw_iload_n (q := 23) hc dJ14_getChars_22 rfl rfl xg_0 ?_
      refine gw_bipush (q := 25) hc dJ14_getChars_23 rfl (by decide) ?_
      refine gw_icmp_gt  (q := 28) (t := 72) hc dJ14_getChars_25 rfl (by decide) (by omega) (by omega) (fun c25 => ?_) (fun c25 => ?_)
      · skip
        refine gw_aload_n (q := 73) hc dJ14_getChars_72 rfl rfl xg_2 ?_
        refine gw_iinc (q := 76) hc dJ14_getChars_73 rfl xg_5 xs_5 (by decide) (n2p xg_4 rfl) ?_
        refine gw_iload (q := 78) hc dJ14_getChars_76 rfl xg_5 ?_
        refine gw_gets (q := 81) (v := .ref (X 3)) hc dJ14_getChars_78 rfl q795 (by exact hc.2.2.2.2.2.2.2.2.2.1.2.2.2.2.2.2.2.1) (fun _ h => h) ?_
        refine gw_iload_n (q := 82) hc dJ14_getChars_81 rfl rfl xg_0 ?_
        refine gw_ineg (q := 83) hc dJ14_getChars_82 rfl ?_
        refine gw_tbld (q := 84) hc dJ14_getChars_83 rfl hc.2.2.2.2.2.2.2.2.2.1.2.2.2.2.2.2.2.2.1 (by omega) (by omega) ?_
        refine gw_bast (q := 85) hc dJ14_getChars_84 rfl gup_s (by omega) (by omega) (by show -128 ≤ (48 : Int) + _ ∧ (48 : Int) + _ < 128; omega) ?_
        refine gw_G gup_gup ?_
        refine gw_G (show _ = gup G vl (bA D cap (fu g (n + nd v - j - 1) (48 + u % 10))) from by rw [show n + (nd v : Int) - (j : Int) + -1 = n + nd v - j - 1 by omega, show onesF (- -u) = 48 + u % 10 by unfold onesF; omega]) ?_
        refine gw_iload_n (q := 86) hc dJ14_getChars_85 rfl rfl xg_0 ?_
        refine gw_bipush (q := 88) hc dJ14_getChars_86 rfl (by decide) ?_
        refine gw_icmp_ge  (q := 91) (t := 104) hc dJ14_getChars_88 rfl (by decide) (by omega) (by omega) (fun c88 => ?_) (fun c88 => ?_)
        · skip
          refine gw_iload (q := 106) hc dJ14_getChars_104 rfl xg_6 ?_
          refine gw_if_eq  (q := 109) (t := 118) hc dJ14_getChars_106 rfl (by decide) (by omega) (fun c106 => ?_) (fun c106 => ?_)
          · skip
            refine gw_iload (q := 120) hc dJ14_getChars_118 rfl xg_5 ?_
            exact gw_iret hc dJ14_getChars_120 ⟨_, rfl, ⟨_, rB_fu hI22.1.2 (by omega), fun i a b => gc_1 hI22.2.1 hI22.2.2.2 (by omega) rfl a b, rfl⟩⟩
          · exfalso; omega
        · skip
          refine gw_aload_n (q := 92) hc dJ14_getChars_91 rfl rfl xg_2 ?_
          refine gw_iinc (q := 95) hc dJ14_getChars_92 rfl xg_5 xs_5 (by decide) (n2p xg_4 rfl) ?_
          refine gw_iload (q := 97) hc dJ14_getChars_95 rfl xg_5 ?_
          refine gw_gets (q := 100) (v := .ref (X 4)) hc dJ14_getChars_97 rfl q797 (by exact hc.2.2.2.2.2.2.2.2.2.1.2.2.2.2.2.2.2.2.2.1) (fun _ h => h) ?_
          refine gw_iload_n (q := 101) hc dJ14_getChars_100 rfl rfl xg_0 ?_
          refine gw_ineg (q := 102) hc dJ14_getChars_101 rfl ?_
          refine gw_tbld (q := 103) hc dJ14_getChars_102 rfl hc.2.2.2.2.2.2.2.2.2.1.2.2.2.2.2.2.2.2.2.2.1 (by omega) (by omega) ?_
          refine gw_bast (q := 104) hc dJ14_getChars_103 rfl gup_s (by omega) (by omega) (by show -128 ≤ (48 : Int) + _ ∧ (48 : Int) + _ < 128; omega) ?_
          refine gw_G gup_gup ?_
          refine gw_G (show _ = gup G vl (bA D cap (fu (fu g (n + nd v - j - 1) (48 + u % 10)) (n + nd v - j - 2) (48 + u / 10 % 10))) from by rw [show n + (nd v : Int) - (j : Int) + -1 + -1 = n + nd v - j - 2 by omega, show tensF (- -u) = 48 + u / 10 % 10 by unfold tensF; omega]) ?_
          refine gw_iload (q := 106) hc dJ14_getChars_104 rfl xg_6 ?_
          refine gw_if_eq  (q := 109) (t := 118) hc dJ14_getChars_106 rfl (by decide) (by omega) (fun c106 => ?_) (fun c106 => ?_)
          · skip
            refine gw_iload (q := 120) hc dJ14_getChars_118 rfl xg_5 ?_
            exact gw_iret hc dJ14_getChars_120 ⟨_, rfl, ⟨_, rB_fu (rB_fu hI22.1.2 (by omega)) (by omega), fun i a b => gc_2 hI22.2.1 hI22.2.2.2 (by omega) rfl a b, rfl⟩⟩
          · exfalso; omega
      · skip
        have h100 := nd_100 (u := u) (by omega) (by omega)
        refine gw_iload_n (q := 29) hc dJ14_getChars_28 rfl rfl xg_0 ?_
        refine gw_bipush (q := 31) hc dJ14_getChars_29 rfl (by decide) ?_
        refine gw_idivN (q := 32) hc dJ14_getChars_31 rfl ⟨by omega, by omega⟩ ?_
        refine gw_istore_n (q := 33) hc dJ14_getChars_32 rfl rfl xs_3 (by decide) (n2p xg_2 rfl) ?_
        refine gw_iload_n (q := 34) hc dJ14_getChars_33 rfl rfl xg_3 ?_
        refine gw_bipush (q := 36) hc dJ14_getChars_34 rfl (by decide) ?_
        refine gw_imul (q := 37) hc dJ14_getChars_36 rfl ?_
        refine gw_iload_n (q := 38) hc dJ14_getChars_37 rfl rfl xg_0 ?_
        refine gw_isub (q := 39) hc dJ14_getChars_38 rfl ?_
        refine gw_istore (q := 41) hc dJ14_getChars_39 rfl xs_4 (by decide) (n2p xg_3 rfl) ?_
        refine gw_iload_n (q := 42) hc dJ14_getChars_41 rfl rfl xg_3 ?_
        refine gw_istore_n (q := 43) hc dJ14_getChars_42 rfl rfl xs_0 (by decide) (fun _ _ h => absurd h (by decide)) ?_
        refine gw_aload_n (q := 44) hc dJ14_getChars_43 rfl rfl xg_2 ?_
        refine gw_iinc (q := 47) hc dJ14_getChars_44 rfl xg_5 xs_5 (by decide) (n2p xg_4 rfl) ?_
        refine gw_iload (q := 49) hc dJ14_getChars_47 rfl xg_5 ?_
        refine gw_gets (q := 52) (v := .ref (X 3)) hc dJ14_getChars_49 rfl q795 (by exact hc.2.2.2.2.2.2.2.2.2.1.2.2.2.2.2.2.2.1) (fun _ h => h) ?_
        refine gw_iload (q := 54) hc dJ14_getChars_52 rfl xg_4 ?_
        refine gw_tbld (q := 55) hc dJ14_getChars_54 rfl hc.2.2.2.2.2.2.2.2.2.1.2.2.2.2.2.2.2.2.1 (by omega) (by omega) ?_
        refine gw_bast (q := 56) hc dJ14_getChars_55 rfl gup_s (by omega) (by omega) (by show -128 ≤ (48 : Int) + _ ∧ (48 : Int) + _ < 128; omega) ?_
        refine gw_G gup_gup ?_
        refine gw_G (show _ = gup G vl (bA D cap (fu g (n + nd v - j - 1) (48 + u % 10))) from by rw [show n + (nd v : Int) - (j : Int) + -1 = n + nd v - j - 1 by omega, show onesF (-(u / 100) * 100 - -u) = 48 + u % 10 by unfold onesF; omega]) ?_
        refine gw_aload_n (q := 57) hc dJ14_getChars_56 rfl rfl xg_2 ?_
        refine gw_iinc (q := 60) hc dJ14_getChars_57 rfl xg_5 xs_5 (by decide) (n2p xg_4 rfl) ?_
        refine gw_iload (q := 62) hc dJ14_getChars_60 rfl xg_5 ?_
        refine gw_gets (q := 65) (v := .ref (X 4)) hc dJ14_getChars_62 rfl q797 (by exact hc.2.2.2.2.2.2.2.2.2.1.2.2.2.2.2.2.2.2.2.1) (fun _ h => h) ?_
        refine gw_iload (q := 67) hc dJ14_getChars_65 rfl xg_4 ?_
        refine gw_tbld (q := 68) hc dJ14_getChars_67 rfl hc.2.2.2.2.2.2.2.2.2.1.2.2.2.2.2.2.2.2.2.2.1 (by omega) (by omega) ?_
        refine gw_bast (q := 69) hc dJ14_getChars_68 rfl gup_s (by omega) (by omega) (by show -128 ≤ (48 : Int) + _ ∧ (48 : Int) + _ < 128; omega) ?_
        refine gw_G gup_gup ?_
        refine gw_G (show _ = gup G vl (bA D cap (fu (fu g (n + nd v - j - 1) (48 + u % 10)) (n + nd v - j - 2) (48 + u / 10 % 10))) from by rw [show n + (nd v : Int) - (j : Int) + -1 + -1 = n + nd v - j - 2 by omega, show tensF (-(u / 100) * 100 - -u) = 48 + u / 10 % 10 by unfold tensF; omega]) ?_
        refine gw_drop (i := 3) xs_3 ?_
        refine gw_drop (i := 4) xs_4 ?_
        refine gw_lv (show _ = [some (.int (iI (-(u / 100)))), some (.int (iI (n + nd v))), some (.ref vl), none, none, some (.int (iI (n + nd v - ((j + 2 : Nat) : Int)))), some (.int (iI 0))] from by rw [show n + (nd v : Int) - ((j + 2 : Nat) : Int) = n + nd v - j + -1 + -1 by omega]) ?_
        refine gw_goto (q := 22) hc dJ14_getChars_69 (by decide) ?_
        exact ih22 ⟨j + 2, u / 100, fu (fu g (n + nd v - j - 1) (48 + u % 10)) (n + nd v - j - 2) (48 + u / 10 % 10)⟩ ⟨⟨⟨by dsimp only; omega, by dsimp only; omega⟩, rB_fu (rB_fu hI22.1.2 (by omega)) (by omega)⟩, by dsimp only; rw [tp_d, tp_d, ← hI22.2.1]; omega, by have := nd_100 (u := u) (by omega) (by omega); dsimp only; omega, fun p h0 h1 => gc_w hI22.2.1 hI22.2.2.2 (by omega) h0 h1⟩ (by dsimp only; omega)
  · exfalso; omega

