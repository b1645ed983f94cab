/-! ===== READING ORDERS: the reader ===== -/
set_option maxRecDepth 100000
/-- the order read at a place -/
abbrev orX (X : Nat → Nat) (Pd : Int → Int) (ln q : Int) : va_E := orO X (kwF (cd Pd ln q)) (orA Pd ln (kwF (cd Pd ln q)) (q + 1)) (orB Pd ln (kwF (cd Pd ln q)) (q + 1))
/-- a reader: its spot, is it wrong, the orders read, those of the places qs -/
def rdR (D : va_G) (X tg : Nat → Nat) (Pd : Int → Int) (ln : Int) (rd e : Nat) (sp wr n : Int) (qs : Int → Int) (G : gM) : Prop :=
  ∃ (ol : Nat) (el : Int → Nat), G rd = some (rdO ol sp wr e) ∧ (tg rd = 99200 ∧ tg ol = 99201) ∧ alR D X tg 99202 G ol n el ∧ ∀ i, 0 ≤ i → i < n → tg (el i) = 99203 ∧ G (el i) = some (orX X Pd ln (qs i))
section RDR
variable {D : va_G} {X tg tg' : Nat → Nat} {hid : Nat} {G G' : gM}
/-- a list appended to -/
theorem al_app {t a ar b : Nat} {mc n : Int} {el : Int → Nat} (hh : t / 100 = hid ∧ tg a / 100 = hid ∧ hid ≠ 999) (hc : G a = some (alO mc ar n)) (har : ar = X 0 ∨ tg ar = t) (hX0 : G (X 0) = none) (ha : adP D G a ar (mc + 1) n el b G') (hn : 0 ≤ n ∧ n < 1000) :
    ∃ tg' : Nat → Nat, tgR tg tg' hid G G' ∧ alR D X tg' t G' a (n + 1) (fu el n b) ∧ (∀ q f, G q = some f → tg q ≠ t → q ≠ a → G' q = some f) ∧ ∀ q, G q ≠ none → tg' q = tg q := by
  obtain ⟨ar', h3, hna, hfr, hnn, hal⟩ := alR_ad (X := X) ha hn (fun q f hf z => by rw [z, hc] at hf; cases hf) (nn_s hc)
  have h3' : (G ar' ≠ none ∧ tg ar' = t) ∨ G ar' = none := by
    rcases h3 with ⟨rfl, f, hf⟩ | h3
    · rcases har with rfl | har
      · rw [hX0] at hf; cases hf
      · exact Or.inl ⟨nn_s hf, har⟩
    · exact Or.inr h3
  have hkp : ∀ q, G q ≠ none → (if q = ar' then t else tg q) = tg q := fun q hq => by
    by_cases z : q = ar'
    · rw [if_pos z, z]
      rcases h3' with h | h
      · exact h.2.symm
      · rw [z, h] at hq; exact absurd rfl hq
    · rw [if_neg z]
  have ho : ∀ q f, G q = some f → tg q ≠ t → q ≠ a → G' q = some f := fun q f hf h1 h2 => by
    rw [hfr q h2 (fun z => ?_)]
    · exact hf
    · rcases h3' with ⟨-, h4⟩ | h4
      · rw [z] at h1; exact h1 h4
      · rw [z, h4] at hf; cases hf
  refine ⟨fun q => if q = ar' then t else tg q, ⟨fun q hq _ => hkp q hq, fun q f hf h1 _ => ho q f hf (fun z => h1 (by rw [z]; exact hh.1)) (fun z => h1 (by rw [z]; exact hh.2.1)), fun q hq hq' => ?_, fun q hq h9 => ?_, hnn⟩, hal _ _ (if_pos rfl), ho, hkp⟩
  · left
    by_cases z : q = ar'
    · show (if q = ar' then t else tg q) / 100 = hid
      rw [if_pos z]; exact hh.1
    · exact absurd (by rw [hfr q (fun z => by rw [z, hc] at hq; cases hq) z]; exact hq) hq'
  · right
    show (if q = ar' then t else tg q) / 100 = 999
    rw [hkp q hq]; exact h9
end RDR
/-- the places of the orders, one behind the other -/
def qsF (Pd : Int → Int) (ln : Int) : Nat → Int
  | 0 => 0
  | n + 1 => oeF Pd ln (qsF Pd ln n) + 1

set_option maxHeartbeats 4000000 in
theorem m_X5_readOrder_w {l : Launch} {D : va_G} {X : Nat → Nat} {b0 : Nat} {tg : Nat → Nat} {rd e a0 pl sv pd : Nat} {sp ln n : Int} {Pd qs : Int → Int} {G : gM} (hRd : rdR D X tg Pd ln rd e sp 1 n qs G) (hE : G e = some (edO a0 pl sv pd)) (hte : tg e / 100 = 995) (hS : sbR D tg 996 pd ln Pd G) (hp : padW Pd ln) (hsp : 0 ≤ sp ∧ sp ≤ 81) : gMet l D X b0 yX5_readOrder cX5_readOrder 2 none (rmE 0 0 0) [.ref rd] G (eV G) := by
  refine gm_start (own := "EnergyDiscs$Reader") (lv := [some (.ref rd), none]) (by decide +kernel) rfl (Nat.le_of_ble_eq_true rfl) rfl (fun p_ e_ s_ m_ args_ below_ meth_ c_ hc hnm => ?_)
  obtain ⟨ol, el, hR, ⟨htr, hto⟩, hal, hel⟩ := hRd
  obtain ⟨vl, mb, cap, f, hG, -⟩ := id hS
  have hpb := hp.1
  have hre : rd ≠ e := fun z => by rw [z, hE] at hR; cases hR
  refine gw_aload_n (q := 1) hc dX5_readOrder_0 rfl rfl xg_0 ?_
  refine gw_get (q := 4) hc dX5_readOrder_1 rfl cE_RE 2 (by decide) q1202 (fun _ h => h) hR rfl ?_
  refine gw_if_eq  (q := 7) (t := 12) hc dX5_readOrder_4 rfl (by decide) (by omega) (fun c4 => ?_) (fun c4 => ?_)
  · exfalso; omega
  · skip
    refine gw_ldcS (q := 9) hc dX5_readOrder_7 rfl (k := 6) (by decide) ?_
    refine gw_goto (q := 19) hc dX5_readOrder_9 (by decide) ?_
    refine gw_astore_n (q := 20) hc dX5_readOrder_19 rfl rfl xs_1 (by decide) (n2p xg_0 rfl) ?_
    refine gw_aload_n (q := 21) hc dX5_readOrder_20 rfl rfl xg_0 ?_
    refine gw_aload_n (q := 22) hc dX5_readOrder_21 rfl rfl xg_0 ?_
    refine gw_get (q := 25) hc dX5_readOrder_22 rfl cE_RE 2 (by decide) q1202 (fun _ h => h) hR rfl ?_
    refine gw_if_ne  (q := 28) (t := 35) hc dX5_readOrder_25 rfl (by decide) (by omega) (fun c25 => ?_) (fun c25 => ?_)
    · skip
      refine gw_iconst (q := 36) hc dX5_readOrder_35 rfl ?_
      refine gw_goto (q := 40) hc dX5_readOrder_36 (by decide) ?_
      refine gw_put (q := 43) hc dX5_readOrder_40 rfl cE_RE 2 (by decide) q1202 (fun _ h => h) rfl hR (nz (by omega)) rfl (Nat.le_of_ble_eq_true rfl) ?_
      refine gw_G (gup_id hR) ?_
      refine gw_aload_n (q := 44) hc dX5_readOrder_43 rfl rfl xg_0 ?_
      refine gw_get (q := 47) hc dX5_readOrder_44 rfl cE_RE 2 (by decide) q1202 (fun _ h => h) hR rfl ?_
      refine gw_if_ne  (q := 50) (t := 75) hc dX5_readOrder_47 rfl (by decide) (by omega) (fun c47 => ?_) (fun c47 => ?_)
      · skip
        exact gw_vret hc dX5_readOrder_75 ⟨rfl, rfl⟩
      · exfalso; omega
    · exfalso; omega

theorem ro_el {X tg1 tg3 : Nat → Nat} {Pd qs : Int → Int} {ln sp n : Int} {G2 G3 : gM} {el : Int → Nat} {r ol : Nat} (hel2 : ∀ i, 0 ≤ i → i < n → tg1 (el i) = 99203 ∧ G2 (el i) = some (orX X Pd ln (qs i))) (hr : tg1 r = 99203) (hc : G2 r = some (orX X Pd ln sp)) (ho3 : ∀ q f, G2 q = some f → tg1 q ≠ 99202 → q ≠ ol → G3 q = some f) (hk3 : ∀ q, G2 q ≠ none → tg3 q = tg1 q) (hto : tg1 ol = 99201) {i : Int} (h0 : 0 ≤ i) (h1 : i < n + 1) : tg3 (fu el n r i) = 99203 ∧ G3 (fu el n r i) = some (orX X Pd ln (fu qs n sp i)) := by
  by_cases z : i = n
  · rw [z, fu_s, fu_s]
    exact ⟨by rw [hk3 _ (nn_s hc)]; exact hr, ho3 _ _ hc (by omega) (fun y => by rw [y] at hr; omega)⟩
  · rw [fu_n z, fu_n z]
    obtain ⟨x1, x2⟩ := hel2 i h0 (by omega)
    exact ⟨by rw [hk3 _ (nn_s x2)]; exact x1, ho3 _ _ x2 (by omega) (fun y => by rw [y] at x1; omega)⟩
theorem mw_X6_word : mS yX6_word cX6_word 1 (some (FieldType.object "java/lang/String")) 1 := ⟨⟨by decide +kernel, by decide +kernel, by decide +kernel⟩, q1075, q96, q1076⟩
theorem mw_J5_isEmpty : mV "java/lang/String" yJ5_isEmpty cJ5_isEmpty 1 (some FieldType.boolean) 0 := ⟨⟨rfl, by decide +kernel, by decide +kernel, by decide +kernel⟩, q1085, q1086, q80, q1087⟩
theorem mw_X5_order : mV "EnergyDiscs$Reader" yX5_order cX5_order 4 (some (FieldType.object "EnergyDiscs$Order")) 1 := ⟨⟨rfl, by decide +kernel, by decide +kernel, by decide +kernel⟩, q1090, qs33, q95, q1091⟩
set_option maxHeartbeats 4000000 in
theorem m_X5_readOrder {l : Launch} {D : va_G} {X : Nat → Nat} {b0 : Nat} {tg : Nat → Nat} {rd e a0 pl sv pd : Nat} {sp ln n : Int} {Pd qs : Int → Int} {G : gM} (hRd : rdR D X tg Pd ln rd e sp 0 n qs G) (hE : G e = some (edO a0 pl sv pd)) (hte : tg e / 100 = 995) (hS : sbR D tg 996 pd ln Pd G) (hp : padW Pd ln) (hsp : 0 ≤ sp ∧ sp ≤ 81) (hn : 0 ≤ n ∧ n ≤ 40) : gMet l D X b0 yX5_readOrder cX5_readOrder 2 none (rmE 11 2 67) [.ref rd] G (pV fun G' => ∃ tg' : Nat → Nat, tgR tg tg' 992 G G' ∧ ((kwF (cd Pd ln sp) = 6 ∧ rdR D X tg' Pd ln rd e sp 1 n qs G') ∨ (kwF (cd Pd ln sp) ≠ 6 ∧ rdR D X tg' Pd ln rd e (orS Pd ln (kwF (cd Pd ln sp)) (sp + 1)) (orW Pd ln (kwF (cd Pd ln sp)) (sp + 1)) (n + 1) (fu qs n sp) G'))) := by
  refine gm_start (own := "EnergyDiscs$Reader") (lv := [some (.ref rd), none]) (by decide +kernel) rfl (Nat.le_of_ble_eq_true rfl) rfl (fun p_ e_ s_ m_ args_ below_ meth_ c_ hc hnm => ?_)
  obtain ⟨ol, el, hR, ⟨htr, hto⟩, hal, hel⟩ := hRd
  obtain ⟨vl, mb, cap, f, hG, -⟩ := id hS
  have hpb := hp.1
  have hre : rd ≠ e := fun z => by rw [z, hE] at hR; cases hR
  have hat := at_r hp hsp.1
  have hkw := kw_c (z := cd Pd ln sp)
  refine gw_aload_n (q := 1) hc dX5_readOrder_0 rfl rfl xg_0 ?_
  refine gw_get (q := 4) hc dX5_readOrder_1 rfl cE_RE 2 (by decide) q1202 (fun _ h => h) hR rfl ?_
  refine gw_if_eq  (q := 7) (t := 12) hc dX5_readOrder_4 rfl (by decide) (by omega) (fun c4 => ?_) (fun c4 => ?_)
  · skip
    refine gw_aload_n (q := 13) hc dX5_readOrder_12 rfl rfl xg_0 ?_
    refine gw_callV (q := 16) (bc' := 2) (bs' := 67) (As := []) hc dX5_readOrder_13 rfl q1018 mw_X5_next (rc_o hc cE_RE hR) rfl rfl (m_X5_next hR hE hS hp (by omega) (Or.inl rfl)) ⟨Nat.le_of_ble_eq_true rfl, Nat.le_of_ble_eq_true rfl⟩ (Nat.le_of_ble_eq_true rfl) (Nat.le_of_ble_eq_true rfl) (Nat.le_of_ble_eq_true rfl) (goI fun r13 G13 h13 => ?_)
    obtain ⟨er13, hgg⟩ := h13
    rw [hgg, er13]
    refine gw_callS (q := 19) (bc' := 2) (bs' := 67) (As := [_]) hc dX5_readOrder_16 rfl q1074 mw_X6_word rfl rfl (m_X6_word ⟨by omega, by omega⟩) ⟨Nat.le_of_ble_eq_true rfl, Nat.le_of_ble_eq_true rfl⟩ (Nat.le_of_ble_eq_true rfl) (Nat.le_of_ble_eq_true rfl) (Nat.le_of_ble_eq_true rfl) (goA fun r16 G16 h16 => ?_)
    obtain ⟨er16, hgg⟩ := h16
    rw [hgg, er16, at_k hp hsp.1]
    refine gw_astore_n (q := 20) hc dX5_readOrder_19 rfl rfl xs_1 (by decide) (n2p xg_0 rfl) ?_
    refine gw_aload_n (q := 21) hc dX5_readOrder_20 rfl rfl xg_0 ?_
    refine gw_aload_n (q := 22) hc dX5_readOrder_21 rfl rfl xg_0 ?_
    refine gw_get (q := 25) hc dX5_readOrder_22 rfl cE_RE 2 (by decide) q1202 (fun _ h => h) hR rfl ?_
    refine gw_if_ne  (q := 28) (t := 35) hc dX5_readOrder_25 rfl (by decide) (by omega) (fun c25 => ?_) (fun c25 => ?_)
    · exfalso; omega
    · skip
      refine gw_aload_n (q := 29) hc dX5_readOrder_28 rfl rfl xg_1 ?_
      refine gw_callV (q := 32) (bc' := 2) (bs' := 67) (As := []) hc dX5_readOrder_29 rfl q1084 mw_J5_isEmpty (rc_s hc (by omega)) rfl rfl (m_J5_isEmpty (by omega)) ⟨Nat.le_of_ble_eq_true rfl, Nat.le_of_ble_eq_true rfl⟩ (Nat.le_of_ble_eq_true rfl) (Nat.le_of_ble_eq_true rfl) (Nat.le_of_ble_eq_true rfl) (goI fun r29 G29 h29 => ?_)
      obtain ⟨b29, hgg⟩ := h29
      rw [hgg]
      have htx := tx_0 (k := kwF (cd Pd ln sp)) hkw.2.2.2.2.2.2
      refine gw_if_eq  (q := 35) (t := 39) hc dX5_readOrder_32 rfl (by decide) (by omega) (fun c32 => ?_) (fun c32 => ?_)
      · skip
        refine gw_iconst (q := 40) hc dX5_readOrder_39 rfl ?_
        refine gw_put (q := 43) hc dX5_readOrder_40 rfl cE_RE 2 (by decide) q1202 (fun _ h => h) rfl hR (nz (by omega)) rfl (Nat.le_of_ble_eq_true rfl) ?_
        refine gw_G (gup_id hR) ?_
        refine gw_aload_n (q := 44) hc dX5_readOrder_43 rfl rfl xg_0 ?_
        refine gw_get (q := 47) hc dX5_readOrder_44 rfl cE_RE 2 (by decide) q1202 (fun _ h => h) hR rfl ?_
        refine gw_if_ne  (q := 50) (t := 75) hc dX5_readOrder_47 rfl (by decide) (by omega) (fun c47 => ?_) (fun c47 => ?_)
        · exfalso; omega
        · have hk6 : kwF (cd Pd ln sp) ≠ 6 := by omega
          refine gw_aload_n (q := 51) hc dX5_readOrder_50 rfl rfl xg_0 ?_
          refine gw_dup (q := 52) hc dX5_readOrder_51 rfl rfl ?_
          refine gw_get (q := 55) hc dX5_readOrder_52 rfl cE_RE 1 (by decide) q1200 (fun _ h => h) hR rfl ?_
          refine gw_iconst (q := 56) hc dX5_readOrder_55 rfl ?_
          refine gw_iadd (q := 57) hc dX5_readOrder_56 rfl ?_
          refine gw_put (q := 60) hc dX5_readOrder_57 rfl cE_RE 1 (by decide) q1200 (fun _ h => h) rfl hR ⟨rfl, rfl⟩ rfl (Nat.le_of_ble_eq_true rfl) ?_
          refine gw_aload_n (q := 61) hc dX5_readOrder_60 rfl rfl xg_0 ?_
          refine gw_get (q := 64) hc dX5_readOrder_61 rfl cE_RE 0 (by decide) q1198 (fun _ h => h) gup_s rfl ?_
          refine gw_aload_n (q := 65) hc dX5_readOrder_64 rfl rfl xg_0 ?_
          refine gw_aload_n (q := 66) hc dX5_readOrder_65 rfl rfl xg_1 ?_
          refine gw_callV (q := 69) (bc' := 1) (bs' := 64) (As := [_]) hc dX5_readOrder_66 rfl q1088 mw_X5_order (rc_o hc cE_RE gup_s) rfl rfl (m_X5_order gup_s (by rw [gup_n (Ne.symm hre)]; exact hE) (sb_up hS hR (by decide)) hp (by omega) (by omega)) ⟨Nat.le_of_ble_eq_true rfl, Nat.le_of_ble_eq_true rfl⟩ (Nat.le_of_ble_eq_true rfl) (Nat.le_of_ble_eq_true rfl) (Nat.le_of_ble_eq_true rfl) (goA fun r66 G66 h66 => ?_)
          obtain ⟨hr0, hrr, hgg⟩ := h66
          rw [hgg]
          refine gw_G (gup_xr2 hrr) ?_
          have hrn := (none_gup hr0).2
          obtain ⟨c1, hc1⟩ : ∃ c1, c1 = orX X Pd ln sp := ⟨_, rfl⟩
          obtain ⟨c2, hc2⟩ : ∃ c2, c2 = rdO ol (orS Pd ln (kwF (cd Pd ln sp)) (sp + 1)) (orW Pd ln (kwF (cd Pd ln sp)) (sp + 1)) e := ⟨_, rfl⟩
          refine gw_G (show _ = gup (gup G r66 c1) rd c2 from by rw [hc1, hc2]) ?_
          have ht1 := tgR_new (tg := tg) (hid := 992) (t := 99203) (e := c1) hrn (Or.inl (by omega))
          obtain ⟨tg1, etg1⟩ : ∃ tg1 : Nat → Nat, tg1 = fun q => if q = r66 then 99203 else tg q := ⟨_, rfl⟩
          rw [← etg1] at ht1
          have ktg : ∀ q, G q ≠ none → tg1 q = tg q := fun q hq => by rw [etg1]; exact if_neg (fun z => hq (by rw [z]; exact hrn))
          have htr1 : tg1 rd = 99200 := by rw [ktg _ (nn_s hR)]; exact htr
          have ht2 := tgR_upH (a := rd) (e := c2) ht1 (by omega) (gup_nn (nn_s hR))
          obtain ⟨G2, hG2⟩ : ∃ G2, G2 = gup (gup G r66 c1) rd c2 := ⟨_, rfl⟩
          rw [← hG2] at ht2 ⊢
          have hkeep : ∀ q f, G q = some f → q ≠ rd → G2 q = some f := fun q f hf hq => by rw [hG2, gup_n hq, gup_n (ne_none hf hrn)]; exact hf
          have hol : ol ≠ rd := fun z => by rw [z] at hto; omega
          have hal2 : alR D X tg1 99202 G2 ol n el := alR_mv hal (fun f hf => hkeep _ f hf hol) (fun q f hf hq => ⟨hkeep q f hf (fun z => by rw [z] at hq; omega), ktg q (nn_s hf)⟩)
          obtain ⟨mcx, arx, hmcx, hOx, hAx, harx⟩ := alR_P hal2
          have hrd2 : G2 rd = some c2 := by rw [hG2]; exact gup_s
          have hr2 : G2 r66 = some c1 := by rw [hG2, gup_n hrr]; exact gup_s
          have hel2 : ∀ i, 0 ≤ i → i < n → tg1 (el i) = 99203 ∧ G2 (el i) = some (orX X Pd ln (qs i)) := fun i a b => by
              obtain ⟨x1, x2⟩ := hel i a b
              exact ⟨by rw [ktg _ (nn_s x2)]; exact x1, hkeep _ _ x2 (fun z => by rw [z] at x1; omega)⟩
          have hobq : obL G2 6 n el := fun i a b => ⟨_, (hel2 i a b).2⟩
          refine gw_x0 hc (fun hX5 => ?_)
          refine gw_callF (q := 74) (bc' := 0) (bs' := 0) (As := [_]) hc dX5_readOrder_69 rfl cE_AL q1196 mf_J2_add_7 rfl rfl (m_J2_add (hc1 ▸ hr2) cE_OR q1560 hobq hOx hAx (by omega)) (rc_o hc cE_AL hOx) ⟨Nat.le_of_ble_eq_true rfl, Nat.le_of_ble_eq_true rfl⟩ (Nat.le_of_ble_eq_true rfl) (Nat.le_of_ble_eq_true rfl) (Nat.le_of_ble_eq_true rfl) (goI fun r69 G69 h69 => ?_)
          obtain ⟨-, had⟩ := h69
          have hto1 : tg1 ol = 99201 := by
              obtain ⟨_, _, -, hq, -⟩ := hal
              rw [ktg _ (nn_s hq)]; exact hto
          obtain ⟨tg3, ht3, hal3, ho3, hk3⟩ := al_app (hid := 992) (by omega) hOx harx hX5 had (by omega)
          refine gw_pop (q := 75) hc dX5_readOrder_74 rfl rfl ?_
          exact gw_vret hc dX5_readOrder_75 ⟨rfl, ⟨tg3, tgR_tr (by omega) ht2 ht3, Or.inr ⟨hk6, ol, fu el n r66, by rw [hc2] at hrd2; exact ho3 _ _ hrd2 (by omega) (Ne.symm hol), ⟨by rw [hk3 _ (nn_s hrd2)]; exact htr1, by rw [hk3 _ (nn_s hOx)]; exact hto1⟩, hal3, fun i a b => ro_el (hel2 := hel2) (hr := by rw [etg1]; exact if_pos rfl) (hc := hc1 ▸ hr2) ho3 hk3 hto1 a b⟩⟩⟩
      · skip
        refine gw_iconst (q := 36) hc dX5_readOrder_35 rfl ?_
        refine gw_goto (q := 40) hc dX5_readOrder_36 (by decide) ?_
        refine gw_put (q := 43) hc dX5_readOrder_40 rfl cE_RE 2 (by decide) q1202 (fun _ h => h) rfl hR (nz (by omega)) rfl (Nat.le_of_ble_eq_true rfl) ?_
        have ht9 := tgR_upH (a := rd) (e := rdO ol sp 1 e) (tgR_rf (tg := tg) (hid := 992) (G := G)) (by omega) (nn_s hR)
        refine gw_aload_n (q := 44) hc dX5_readOrder_43 rfl rfl xg_0 ?_
        refine gw_get (q := 47) hc dX5_readOrder_44 rfl cE_RE 2 (by decide) q1202 (fun _ h => h) gup_s rfl ?_
        refine gw_if_ne  (q := 50) (t := 75) hc dX5_readOrder_47 rfl (by decide) (by omega) (fun c47 => ?_) (fun c47 => ?_)
        · skip
          exact gw_vret hc dX5_readOrder_75 ⟨rfl, ⟨tg, ht9, Or.inl ⟨by omega, ol, el, gup_s, ⟨htr, hto⟩, alR_mv hal (fun f hf => by rw [gup_n (fun z => by rw [z] at hto; omega)]; exact hf) (fun q f hf hq => ⟨by rw [gup_n (fun z => by rw [z] at hq; omega)]; exact hf, rfl⟩), fun i a b => ⟨(hel i a b).1, by rw [gup_n (fun z => by have x1 := (hel i a b).1; rw [z] at x1; omega)]; exact (hel i a b).2⟩⟩⟩⟩
        · exfalso; omega
  · exfalso; omega

