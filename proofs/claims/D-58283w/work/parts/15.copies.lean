/-! ===== copies of arrays, class objects ===== -/
set_option maxRecDepth 100000
/-- a copied stretch -/
def cpF {α : Type} (f g : Int → α) (sp dp n : Int) : Int → α := fun i => if dp ≤ i ∧ i < dp + n then f (sp + (i - dp)) else g i
theorem cpF_cpy {α β : Type} (w : α → β) {f g : Int → α} {sp dp n : Int} (h0 : 0 ≤ sp) (h1 : 0 ≤ dp) (h2 : 0 ≤ n) {sp' dp' n' : Nat} (e0 : (sp' : Int) = sp) (e1 : (dp' : Int) = dp) (e2 : (n' : Int) = n) : va_cpy (fun j : Nat => w (f (j : Int))) (fun j : Nat => w (g (j : Int))) sp' dp' n' = fun j : Nat => w (cpF f g sp dp n (j : Int)) := by
  funext j
  unfold va_cpy cpF
  by_cases h : dp' ≤ j ∧ j < dp' + n'
  · rw [if_pos h, if_pos (by omega)]
    show w (f ((sp' + (j - dp') : Nat) : Int)) = _
    rw [show ((sp' + (j - dp') : Nat) : Int) = sp + ((j : Int) - dp) by omega]
  · rw [if_neg h, if_neg (by omega)]
theorem iI_nn {z : Int} (h0 : 0 ≤ z) (h : z < 2147483648) : ¬ iI z < 0 := fun q => by have := (iI_lt ⟨by omega, by omega⟩ (show rI 0 by decide)).mp q; omega
section GWCP
variable {p : Program} {l : Launch} {e : Env} {R : Room} {s : State} {m : MethodId} {args : Array Value} {below : List Frame} {meth : Method} {c : Code} {Q : State → Prop}
variable {D : va_G} {X : Nat → Nat} {b0 nL bc bs pc q : Nat} {own : String} {cc : ByteArray} {ret : Option FieldType} {G : gM} {lv lv' lv1 : List (Option Value)} {st : List Value}
theorem gs_upL {D : va_G} {b0 : Nat} {s : State} {G : gM} {H H' : Heap} {locs L : List Loc} {a : Nat} {e e' : va_E} (hg : gs D b0 s G H locs) (hG : G a = some e) (hat : cAt D (a, e') H') (e2 : H'.size = H.size) (e3 : ∀ q, q ≠ a → H'[q]? = H[q]?) (hL : ∀ x ∈ L, x.base = a) : gs D b0 s (gup G a e') H' (locs ++ L) := by
  have hb := (hg.1 a _ hG).2
  refine ⟨fun z w hz => ?_, ⟨by rw [e2]; exact hg.2.1, fun q h1 h2 => by rw [e3 q (fun z => h2 (by rw [z]; exact hb))]; exact hg.2.2.1 q h1 h2, fun q hq => ?_⟩⟩
  · by_cases hza : z = a
    · subst hza
      rw [gup_s] at hz
      cases hz
      exact ⟨hat, hb⟩
    · rw [gup_n hza] at hz
      exact ⟨(hg.1 z w hz).1.kept (e3 z hza), (hg.1 z w hz).2⟩
  · rcases List.mem_append.mp hq with h | h
    · exact hg.2.2.2 q h
    · show b0 ≤ _
      rw [hL q h]
      exact hb
theorem fits_b {z : Int} (h : -128 ≤ z ∧ z < 128) : fits .byte (.int (iI z)) = true := by
  have e := iI_i2b h.1 h.2
  simp [fits]
  exact ⟨(iI_le (a := -128) (by decide) ⟨by omega, by omega⟩).mpr h.1, (iI_le (b := 127) ⟨by omega, by omega⟩ (by decide)).mpr (by omega)⟩
theorem gw_copyb (hc : cx p s m args meth c D X b0 own cc nL ret) {a a0 n0 n1 index : Nat} {f g : Int → Int} {sp dp n : Int} (d : decode cc pc = .ok (.invokestatic index, 3)) (hq : pc + 3 = q) (hlink : Cond.methodLink own index arraycopyName ∈ lw_all) (hnat : Cond.native arraycopyName ∈ lw_all) (hstat : Cond.static arraycopyName ∈ lw_all) (hini : Cond.initialized "java/lang/System" ∈ lw_all) (hS : G a0 = some (bA D n0 f)) (hG : G a = some (bA D n1 g)) (hsp : 0 ≤ sp ∧ sp + n ≤ n0) (hdp : 0 ≤ dp ∧ dp + n ≤ n1) (hnn : 0 ≤ n) (hbig : n0 < 2147483648 ∧ n1 < 2147483648) (hfit : ∀ i, 0 ≤ i → i < n → -128 ≤ f (sp + i) ∧ f (sp + i) < 128) (hfr : 1 ≤ R.frames) (hlo : (st.map fun v => v.category).sum + (nativeFrameWords "java/lang/System" "arraycopy" 5 + 11) ≤ R.locals) (kk : GW p l e R s m args below meth c D b0 nL Q (gup G a (bA D n1 (cpF f g sp dp n))) bc bs q lv st) : GW p l e R s m args below meth c D b0 nL Q G bc bs pc lv (.int (iI n) :: .int (iI dp) :: .ref a :: .int (iI sp) :: .ref a0 :: st) := by
  subst hq
  intro H locs ls cells slots h1 h2 hg hl T hT XX
  have hw := hc.2.2.2.2.1
  have hK := hc.2.2.2.2.2.2.2.2.1.1
  have e0 : ((iI sp).toNatClampNeg : Int) = sp := iI_clamp hsp.1 (by omega)
  have e1 : ((iI dp).toNatClampNeg : Int) = dp := iI_clamp hdp.1 (by omega)
  have e2 : ((iI n).toNatClampNeg : Int) = n := iI_clamp hnn (by omega)
  have t0 : (iI sp).toInt = sp := iI_toInt ⟨by omega, by omega⟩
  have t1 : (iI dp).toInt = dp := iI_toInt ⟨by omega, by omega⟩
  have t2 : (iI n).toInt = n := iI_toInt ⟨by omega, by omega⟩
  have hc0 : H[a0]? = some (vp_cell (D.1 (100 + 2)) (n0, .inl (fun j : Nat => iI (f (j : Int))))) := (hg.1 a0 _ hS).1
  obtain ⟨-, k0, hk0, cm0, hkk0⟩ := (hK.2 2 _ rfl).1 n0 (fun j : Nat => .int (iI (f (j : Int))))
  have hc1 : H[a]? = some (vp_cell (D.1 (100 + 2)) (n1, .inl (fun j : Nat => iI (g (j : Int))))) := (hg.1 a _ hG).1
  obtain ⟨-, k1, hk1, cm1, hkk1⟩ := (hK.2 2 _ rfl).1 n1 (fun j : Nat => .int (iI (g (j : Int))))
  obtain ⟨vm', X', step⟩ := XX.arraycopy hc.1 hc.2.2.2.1 (hw _ hlink) (hw _ hnat) (hw _ hstat) (hw _ hini) (src := a0) (dst := a) (cs := vp_cell (D.1 (100 + 2)) (n0, .inl (fun j : Nat => iI (f (j : Int))))) (cd := vp_cell (D.1 (100 + 2)) (n1, .inl (fun j : Nat => iI (g (j : Int))))) (srcPos := iI sp) (destPos := iI dp) (n := iI n) (by rw [hT]; exact hc0) (by rw [hT]; exact hc1)
    (fun _ h => by cases h) (fun _ h => by cases h) (fun h => by cases h) (fun h => by cases h) hk0 hk1 hkk0 hkk1 (by first | rfl | simp [refKind]) (iI_nn hsp.1 (by omega)) (iI_nn hdp.1 (by omega)) (iI_nn hnn (by omega))
    (by rw [t0, t2]; show ¬ _ > ((arrV (D.1 (100 + 2)) n0 (fun j : Nat => .int (iI (f (j : Int))))).slots.size : Int); rw [arrV_size]; omega)
    (by rw [t1, t2]; show ¬ _ > ((arrV (D.1 (100 + 2)) n1 (fun j : Nat => .int (iI (g (j : Int))))).slots.size : Int); rw [arrV_size]; omega)
    (fun vm₁ hal i hi => by
      have e : (vp_cell (D.1 (100 + 2)) (n0, .inl (fun j : Nat => iI (f (j : Int))))).slots.getD ((iI sp).toNatClampNeg + i) .null = .int (iI (f (((iI sp).toNatClampNeg + i : Nat) : Int))) := by
        show (arrV (D.1 (100 + 2)) n0 (fun j : Nat => .int (iI (f (j : Int))))).slots.getD _ _ = _
        rw [Array.getD_eq_getD_getElem?, arrV_read _ _ (by omega)]
        rfl
      rw [e]
      exact ⟨fits_b (by have := hfit i (by omega) (by omega); rw [show (((iI sp).toNatClampNeg + i : Nat) : Int) = sp + i by omega]; exact this), trivial⟩)
    (g := F0 m pc ls (.int (iI n) :: .int (iI dp) :: .ref a :: .int (iI sp) :: .ref a0 :: st)) rfl (by rw [hc.2.2.1]; exact hl.1) (rest := st) rfl (by rw [hc.2.1]; exact d) hfr (by show 2 * 0 + _ + _ ≤ _; omega)
  have ec : copied (vp_cell (D.1 (100 + 2)) (n0, .inl (fun j : Nat => iI (f (j : Int))))) (vp_cell (D.1 (100 + 2)) (n1, .inl (fun j : Nat => iI (g (j : Int))))) (iI sp) (iI dp) (iI n) = vp_cell (D.1 (100 + 2)) (n1, .inl (fun j : Nat => iI (cpF f g sp dp n (j : Int)))) := by
    rw [show vp_cell (D.1 (100 + 2)) (n1, .inl (fun j : Nat => iI (cpF f g sp dp n (j : Int)))) = vp_cell (D.1 (100 + 2)) (n1, .inl (va_cpy (fun j : Nat => iI (f (j : Int))) (fun j : Nat => iI (g (j : Int))) (iI sp).toNatClampNeg (iI dp).toNatClampNeg (iI n).toNatClampNeg)) from by rw [← cpF_cpy (fun z : Int => iI z) hsp.1 hdp.1 hnn e0 e1 e2]]
    exact va_copied (n0 := n0) (n1 := n1) (sp := (iI sp).toNatClampNeg) (dp := (iI dp).toNatClampNeg) (n := (iI n).toNatClampNeg) (fun z => .int z) (D.1 (100 + 2)) (D.1 (100 + 2)) (fun j : Nat => iI (f (j : Int))) (fun j : Nat => iI (g (j : Int))) (by omega)
  rw [ec] at X' step
  have hl2 : a < H.size := (Array.getElem?_eq_some_iff.mp hc1).1
  have hheap : ((T.setVm vm').setCell a (vp_cell (D.1 (100 + 2)) (n1, .inl (fun j : Nat => iI (cpF f g sp dp n (j : Int)))))).heap = H.setIfInBounds a (vp_cell (D.1 (100 + 2)) (n1, .inl (fun j : Nat => iI (cpF f g sp dp n (j : Int))))) := by rw [← hT]; rfl
  obtain ⟨t, b1, b2⟩ := kk _ _ ls cells slots h1 h2 (gs_upL hg hG (e' := bA D n1 (cpF f g sp dp n)) (show (H.setIfInBounds a _)[a]? = some _ by simp [Array.getElem?_setIfInBounds, hl2]) (by simp) (fun q hq => by simp [Array.getElem?_setIfInBounds, Ne.symm hq]) (fun x hx => by obtain ⟨z, -, hz⟩ := List.mem_map.mp hx; rw [← hz])) hl _ hheap X'
  exact ⟨t, step t b1, b2⟩
theorem gw_copyi (hc : cx p s m args meth c D X b0 own cc nL ret) {a a0 n0 n1 index : Nat} {f g : Int → Int} {sp dp n : Int} (d : decode cc pc = .ok (.invokestatic index, 3)) (hq : pc + 3 = q) (hlink : Cond.methodLink own index arraycopyName ∈ lw_all) (hnat : Cond.native arraycopyName ∈ lw_all) (hstat : Cond.static arraycopyName ∈ lw_all) (hini : Cond.initialized "java/lang/System" ∈ lw_all) (hS : G a0 = some (iA D n0 f)) (hG : G a = some (iA D n1 g)) (hsp : 0 ≤ sp ∧ sp + n ≤ n0) (hdp : 0 ≤ dp ∧ dp + n ≤ n1) (hnn : 0 ≤ n) (hbig : n0 < 2147483648 ∧ n1 < 2147483648)  (hfr : 1 ≤ R.frames) (hlo : (st.map fun v => v.category).sum + (nativeFrameWords "java/lang/System" "arraycopy" 5 + 11) ≤ R.locals) (kk : GW p l e R s m args below meth c D b0 nL Q (gup G a (iA D n1 (cpF f g sp dp n))) bc bs q lv st) : GW p l e R s m args below meth c D b0 nL Q G bc bs pc lv (.int (iI n) :: .int (iI dp) :: .ref a :: .int (iI sp) :: .ref a0 :: st) := by
  subst hq
  intro H locs ls cells slots h1 h2 hg hl T hT XX
  have hw := hc.2.2.2.2.1
  have hK := hc.2.2.2.2.2.2.2.2.1.1
  have e0 : ((iI sp).toNatClampNeg : Int) = sp := iI_clamp hsp.1 (by omega)
  have e1 : ((iI dp).toNatClampNeg : Int) = dp := iI_clamp hdp.1 (by omega)
  have e2 : ((iI n).toNatClampNeg : Int) = n := iI_clamp hnn (by omega)
  have t0 : (iI sp).toInt = sp := iI_toInt ⟨by omega, by omega⟩
  have t1 : (iI dp).toInt = dp := iI_toInt ⟨by omega, by omega⟩
  have t2 : (iI n).toInt = n := iI_toInt ⟨by omega, by omega⟩
  have hc0 : H[a0]? = some (vp_cell (D.1 (100 + 0)) (n0, .inl (fun j : Nat => iI (f (j : Int))))) := (hg.1 a0 _ hS).1
  obtain ⟨-, k0, hk0, cm0, hkk0⟩ := (hK.2 0 _ rfl).1 n0 (fun j : Nat => .int (iI (f (j : Int))))
  have hc1 : H[a]? = some (vp_cell (D.1 (100 + 0)) (n1, .inl (fun j : Nat => iI (g (j : Int))))) := (hg.1 a _ hG).1
  obtain ⟨-, k1, hk1, cm1, hkk1⟩ := (hK.2 0 _ rfl).1 n1 (fun j : Nat => .int (iI (g (j : Int))))
  obtain ⟨vm', X', step⟩ := XX.arraycopy hc.1 hc.2.2.2.1 (hw _ hlink) (hw _ hnat) (hw _ hstat) (hw _ hini) (src := a0) (dst := a) (cs := vp_cell (D.1 (100 + 0)) (n0, .inl (fun j : Nat => iI (f (j : Int))))) (cd := vp_cell (D.1 (100 + 0)) (n1, .inl (fun j : Nat => iI (g (j : Int))))) (srcPos := iI sp) (destPos := iI dp) (n := iI n) (by rw [hT]; exact hc0) (by rw [hT]; exact hc1)
    (fun _ h => by cases h) (fun _ h => by cases h) (fun h => by cases h) (fun h => by cases h) hk0 hk1 hkk0 hkk1 (by first | rfl | simp [refKind]) (iI_nn hsp.1 (by omega)) (iI_nn hdp.1 (by omega)) (iI_nn hnn (by omega))
    (by rw [t0, t2]; show ¬ _ > ((arrV (D.1 (100 + 0)) n0 (fun j : Nat => .int (iI (f (j : Int))))).slots.size : Int); rw [arrV_size]; omega)
    (by rw [t1, t2]; show ¬ _ > ((arrV (D.1 (100 + 0)) n1 (fun j : Nat => .int (iI (g (j : Int))))).slots.size : Int); rw [arrV_size]; omega)
    (fun vm₁ hal i hi => by
      have e : (vp_cell (D.1 (100 + 0)) (n0, .inl (fun j : Nat => iI (f (j : Int))))).slots.getD ((iI sp).toNatClampNeg + i) .null = .int (iI (f (((iI sp).toNatClampNeg + i : Nat) : Int))) := by
        show (arrV (D.1 (100 + 0)) n0 (fun j : Nat => .int (iI (f (j : Int))))).slots.getD _ _ = _
        rw [Array.getD_eq_getD_getElem?, arrV_read _ _ (by omega)]
        rfl
      rw [e]
      exact ⟨rfl, trivial⟩)
    (g := F0 m pc ls (.int (iI n) :: .int (iI dp) :: .ref a :: .int (iI sp) :: .ref a0 :: st)) rfl (by rw [hc.2.2.1]; exact hl.1) (rest := st) rfl (by rw [hc.2.1]; exact d) hfr (by show 2 * 0 + _ + _ ≤ _; omega)
  have ec : copied (vp_cell (D.1 (100 + 0)) (n0, .inl (fun j : Nat => iI (f (j : Int))))) (vp_cell (D.1 (100 + 0)) (n1, .inl (fun j : Nat => iI (g (j : Int))))) (iI sp) (iI dp) (iI n) = vp_cell (D.1 (100 + 0)) (n1, .inl (fun j : Nat => iI (cpF f g sp dp n (j : Int)))) := by
    rw [show vp_cell (D.1 (100 + 0)) (n1, .inl (fun j : Nat => iI (cpF f g sp dp n (j : Int)))) = vp_cell (D.1 (100 + 0)) (n1, .inl (va_cpy (fun j : Nat => iI (f (j : Int))) (fun j : Nat => iI (g (j : Int))) (iI sp).toNatClampNeg (iI dp).toNatClampNeg (iI n).toNatClampNeg)) from by rw [← cpF_cpy (fun z : Int => iI z) hsp.1 hdp.1 hnn e0 e1 e2]]
    exact va_copied (n0 := n0) (n1 := n1) (sp := (iI sp).toNatClampNeg) (dp := (iI dp).toNatClampNeg) (n := (iI n).toNatClampNeg) (fun z => .int z) (D.1 (100 + 0)) (D.1 (100 + 0)) (fun j : Nat => iI (f (j : Int))) (fun j : Nat => iI (g (j : Int))) (by omega)
  rw [ec] at X' step
  have hl2 : a < H.size := (Array.getElem?_eq_some_iff.mp hc1).1
  have hheap : ((T.setVm vm').setCell a (vp_cell (D.1 (100 + 0)) (n1, .inl (fun j : Nat => iI (cpF f g sp dp n (j : Int)))))).heap = H.setIfInBounds a (vp_cell (D.1 (100 + 0)) (n1, .inl (fun j : Nat => iI (cpF f g sp dp n (j : Int))))) := by rw [← hT]; rfl
  obtain ⟨t, b1, b2⟩ := kk _ _ ls cells slots h1 h2 (gs_upL hg hG (e' := iA D n1 (cpF f g sp dp n)) (show (H.setIfInBounds a _)[a]? = some _ by simp [Array.getElem?_setIfInBounds, hl2]) (by simp) (fun q hq => by simp [Array.getElem?_setIfInBounds, Ne.symm hq]) (fun x hx => by obtain ⟨z, -, hz⟩ := List.mem_map.mp hx; rw [← hz])) hl _ hheap X'
  exact ⟨t, step t b1, b2⟩
theorem gw_copyq (hc : cx p s m args meth c D X b0 own cc nL ret) {a a0 n0 n1 index : Nat} {f g : Int → Option Nat} {sp dp n : Int} (d : decode cc pc = .ok (.invokestatic index, 3)) (hq : pc + 3 = q) (hlink : Cond.methodLink own index arraycopyName ∈ lw_all) (hnat : Cond.native arraycopyName ∈ lw_all) (hstat : Cond.static arraycopyName ∈ lw_all) (hini : Cond.initialized "java/lang/System" ∈ lw_all) (hS : G a0 = some (qA D n0 f)) (hG : G a = some (qA D n1 g)) (hsp : 0 ≤ sp ∧ sp + n ≤ n0) (hdp : 0 ≤ dp ∧ dp + n ≤ n1) (hnn : 0 ≤ n) (hbig : n0 < 2147483648 ∧ n1 < 2147483648) {C : String} (hcast : Cond.castable C "java/lang/Object" ∈ lw_tbl) (hel : ∀ i, 0 ≤ i → i < n → ∀ y : Nat, f (sp + i) = some y → rcv D b0 s G y C) (hfr : 1 ≤ R.frames) (hlo : (st.map fun v => v.category).sum + (nativeFrameWords "java/lang/System" "arraycopy" 5 + 11) ≤ R.locals) (kk : GW p l e R s m args below meth c D b0 nL Q (gup G a (qA D n1 (cpF f g sp dp n))) bc bs q lv st) : GW p l e R s m args below meth c D b0 nL Q G bc bs pc lv (.int (iI n) :: .int (iI dp) :: .ref a :: .int (iI sp) :: .ref a0 :: st) := by
  subst hq
  intro H locs ls cells slots h1 h2 hg hl T hT XX
  have hw := hc.2.2.2.2.1
  have hK := hc.2.2.2.2.2.2.2.2.1.1
  have e0 : ((iI sp).toNatClampNeg : Int) = sp := iI_clamp hsp.1 (by omega)
  have e1 : ((iI dp).toNatClampNeg : Int) = dp := iI_clamp hdp.1 (by omega)
  have e2 : ((iI n).toNatClampNeg : Int) = n := iI_clamp hnn (by omega)
  have t0 : (iI sp).toInt = sp := iI_toInt ⟨by omega, by omega⟩
  have t1 : (iI dp).toInt = dp := iI_toInt ⟨by omega, by omega⟩
  have t2 : (iI n).toInt = n := iI_toInt ⟨by omega, by omega⟩
  have hc0 : H[a0]? = some (vp_cell (D.1 (100 + 4)) (n0, .inr (.inr (.inr (.inr (fun j : Nat => f (j : Int))))))) := (hg.1 a0 _ hS).1
  obtain ⟨-, k0, hk0, cm0, hkk0⟩ := (hK.2 4 _ rfl).1 n0 (fun j : Nat => va_rf (f (j : Int)))
  have hc1 : H[a]? = some (vp_cell (D.1 (100 + 4)) (n1, .inr (.inr (.inr (.inr (fun j : Nat => g (j : Int))))))) := (hg.1 a _ hG).1
  obtain ⟨-, k1, hk1, cm1, hkk1⟩ := (hK.2 4 _ rfl).1 n1 (fun j : Nat => va_rf (g (j : Int)))
  obtain ⟨vm', X', step⟩ := XX.arraycopy hc.1 hc.2.2.2.1 (hw _ hlink) (hw _ hnat) (hw _ hstat) (hw _ hini) (src := a0) (dst := a) (cs := vp_cell (D.1 (100 + 4)) (n0, .inr (.inr (.inr (.inr (fun j : Nat => f (j : Int))))))) (cd := vp_cell (D.1 (100 + 4)) (n1, .inr (.inr (.inr (.inr (fun j : Nat => g (j : Int))))))) (srcPos := iI sp) (destPos := iI dp) (n := iI n) (by rw [hT]; exact hc0) (by rw [hT]; exact hc1)
    (fun _ h => by cases h) (fun _ h => by cases h) (fun h => by cases h) (fun h => by cases h) hk0 hk1 hkk0 hkk1 (by first | rfl | simp [refKind]) (iI_nn hsp.1 (by omega)) (iI_nn hdp.1 (by omega)) (iI_nn hnn (by omega))
    (by rw [t0, t2]; show ¬ _ > ((arrV (D.1 (100 + 4)) n0 (fun j : Nat => va_rf (f (j : Int)))).slots.size : Int); rw [arrV_size]; omega)
    (by rw [t1, t2]; show ¬ _ > ((arrV (D.1 (100 + 4)) n1 (fun j : Nat => va_rf (g (j : Int)))).slots.size : Int); rw [arrV_size]; omega)
    (fun vm₁ hal i hi => by
      have e : (vp_cell (D.1 (100 + 4)) (n0, .inr (.inr (.inr (.inr (fun j : Nat => f (j : Int))))))).slots.getD ((iI sp).toNatClampNeg + i) .null = va_rf (f (((iI sp).toNatClampNeg + i : Nat) : Int)) := by
        show (arrV (D.1 (100 + 4)) n0 (fun j : Nat => va_rf (f (j : Int)))).slots.getD _ _ = _
        rw [Array.getD_eq_getD_getElem?, arrV_read _ _ (by omega)]
        rfl
      rw [e]
      cases hy : f (((iI sp).toNatClampNeg + i : Nat) : Int) with
      | none => exact ⟨rfl, trivial⟩
      | some y =>
        obtain ⟨cellV, g1, g2, g3⟩ := hel i (by omega) (by omega) y (by rw [← hy]; congr 1; omega) H locs hg
        obtain ⟨kA, comp, r1, r2, r3, -⟩ := (hK.2 4 _ rfl).2
        cases hk1.symm.trans r1
        cases hkk1.symm.trans r2
        obtain ⟨kC, hkC, -⟩ := Vm.findClass_spec g3
        obtain ⟨kE, hkE, -⟩ := Vm.findClass_spec r3
        obtain ⟨kC', hkC', -⟩ := hal.2.2 _ _ hkC
        obtain ⟨kE', hkE', -⟩ := hal.2.2 _ _ hkE
        refine ⟨rfl, cellV, (show T.heap[y]? = some cellV by rw [hT]; exact g1), (fun q h => by rw [h] at g2; cases g2), ⟨kC', hkC'⟩, ?_, ?_⟩
        · exact ⟨kE', hkE'⟩
        · show vm₁.assignable _ _ = true
          rw [hal.assignable]
          exact vb_asgC (hc.2.2.2.2.2.2.2.2.1.2 _ hcast rfl) _ _ r3 g3)
    (g := F0 m pc ls (.int (iI n) :: .int (iI dp) :: .ref a :: .int (iI sp) :: .ref a0 :: st)) rfl (by rw [hc.2.2.1]; exact hl.1) (rest := st) rfl (by rw [hc.2.1]; exact d) hfr (by show 2 * 0 + _ + _ ≤ _; omega)
  have ec : copied (vp_cell (D.1 (100 + 4)) (n0, .inr (.inr (.inr (.inr (fun j : Nat => f (j : Int))))))) (vp_cell (D.1 (100 + 4)) (n1, .inr (.inr (.inr (.inr (fun j : Nat => g (j : Int))))))) (iI sp) (iI dp) (iI n) = vp_cell (D.1 (100 + 4)) (n1, .inr (.inr (.inr (.inr (fun j : Nat => cpF f g sp dp n (j : Int)))))) := by
    rw [show vp_cell (D.1 (100 + 4)) (n1, .inr (.inr (.inr (.inr (fun j : Nat => cpF f g sp dp n (j : Int)))))) = vp_cell (D.1 (100 + 4)) (n1, .inr (.inr (.inr (.inr (va_cpy (fun j : Nat => f (j : Int)) (fun j : Nat => g (j : Int)) (iI sp).toNatClampNeg (iI dp).toNatClampNeg (iI n).toNatClampNeg))))) from by rw [← cpF_cpy (fun z : Option Nat => z) hsp.1 hdp.1 hnn e0 e1 e2]]
    rw [vp_cell_q, vp_cell_q, vp_cell_q]
    exact va_copied (n0 := n0) (n1 := n1) (sp := (iI sp).toNatClampNeg) (dp := (iI dp).toNatClampNeg) (n := (iI n).toNatClampNeg) (fun z => va_rf z) (D.1 (100 + 4)) (D.1 (100 + 4)) (fun j : Nat => f (j : Int)) (fun j : Nat => g (j : Int)) (by omega)
  rw [ec] at X' step
  have hl2 : a < H.size := (Array.getElem?_eq_some_iff.mp hc1).1
  have hheap : ((T.setVm vm').setCell a (vp_cell (D.1 (100 + 4)) (n1, .inr (.inr (.inr (.inr (fun j : Nat => cpF f g sp dp n (j : Int)))))))).heap = H.setIfInBounds a (vp_cell (D.1 (100 + 4)) (n1, .inr (.inr (.inr (.inr (fun j : Nat => cpF f g sp dp n (j : Int))))))) := by rw [← hT]; rfl
  obtain ⟨t, b1, b2⟩ := kk _ _ ls cells slots h1 h2 (gs_upL hg hG (e' := qA D n1 (cpF f g sp dp n)) (show (H.setIfInBounds a _)[a]? = some _ by simp [Array.getElem?_setIfInBounds, hl2]) (by simp) (fun q hq => by simp [Array.getElem?_setIfInBounds, Ne.symm hq]) (fun x hx => by obtain ⟨z, -, hz⟩ := List.mem_map.mp hx; rw [← hz])) hl _ hheap X'
  exact ⟨t, step t b1, b2⟩
theorem gw_copyt (hc : cx p s m args meth c D X b0 own cc nL ret) {a a0 n0 n1 index : Nat} {f g : Int → Int} {sp dp n : Int} (d : decode cc pc = .ok (.invokestatic index, 3)) (hq : pc + 3 = q) (hlink : Cond.methodLink own index arraycopyName ∈ lw_all) (hnat : Cond.native arraycopyName ∈ lw_all) (hstat : Cond.static arraycopyName ∈ lw_all) (hini : Cond.initialized "java/lang/System" ∈ lw_all) (hS : va_T .byte a0 n0 (fun j : Nat => .int (iI (f (j : Int)))) (bz b0) s s.heap) (hG : G a = some (bA D n1 g)) (hsp : 0 ≤ sp ∧ sp + n ≤ n0) (hdp : 0 ≤ dp ∧ dp + n ≤ n1) (hnn : 0 ≤ n) (hbig : n0 < 2147483648 ∧ n1 < 2147483648) (hfit : ∀ i, 0 ≤ i → i < n → -128 ≤ f (sp + i) ∧ f (sp + i) < 128) (hfr : 1 ≤ R.frames) (hlo : (st.map fun v => v.category).sum + (nativeFrameWords "java/lang/System" "arraycopy" 5 + 11) ≤ R.locals) (kk : GW p l e R s m args below meth c D b0 nL Q (gup G a (bA D n1 (cpF f g sp dp n))) bc bs q lv st) : GW p l e R s m args below meth c D b0 nL Q G bc bs pc lv (.int (iI n) :: .int (iI dp) :: .ref a :: .int (iI sp) :: .ref a0 :: st) := by
  subst hq
  intro H locs ls cells slots h1 h2 hg hl T hT XX
  have hw := hc.2.2.2.2.1
  have hK := hc.2.2.2.2.2.2.2.2.1.1
  have e0 : ((iI sp).toNatClampNeg : Int) = sp := iI_clamp hsp.1 (by omega)
  have e1 : ((iI dp).toNatClampNeg : Int) = dp := iI_clamp hdp.1 (by omega)
  have e2 : ((iI n).toNatClampNeg : Int) = n := iI_clamp hnn (by omega)
  have t0 : (iI sp).toInt = sp := iI_toInt ⟨by omega, by omega⟩
  have t1 : (iI dp).toInt = dp := iI_toInt ⟨by omega, by omega⟩
  have t2 : (iI n).toInt = n := iI_toInt ⟨by omega, by omega⟩
  obtain ⟨scr, hs1, hs2, hs3, hs4, -, hs5, hs7⟩ := hS
  have hc0 : H[a0]? = some scr := by rw [hg.2.2.1 a0 (Array.getElem?_eq_some_iff.mp hs1).1 hs7]; exact hs1
  obtain ⟨hs6, k0, hk0, cm0, hkk0⟩ := hs2
  have hc1 : H[a]? = some (vp_cell (D.1 (100 + 2)) (n1, .inl (fun j : Nat => iI (g (j : Int))))) := (hg.1 a _ hG).1
  obtain ⟨-, k1, hk1, cm1, hkk1⟩ := (hK.2 2 _ rfl).1 n1 (fun j : Nat => .int (iI (g (j : Int))))
  obtain ⟨vm', X', step⟩ := XX.arraycopy hc.1 hc.2.2.2.1 (hw _ hlink) (hw _ hnat) (hw _ hstat) (hw _ hini) (src := a0) (dst := a) (cs := scr) (cd := vp_cell (D.1 (100 + 2)) (n1, .inl (fun j : Nat => iI (g (j : Int))))) (srcPos := iI sp) (destPos := iI dp) (n := iI n) (by rw [hT]; exact hc0) (by rw [hT]; exact hc1)
    hs6 (fun _ h => by cases h) hs3 (fun h => by cases h) hk0 hk1 hkk0 hkk1 (by first | rfl | simp [refKind]) (iI_nn hsp.1 (by omega)) (iI_nn hdp.1 (by omega)) (iI_nn hnn (by omega))
    (by rw [t0, t2]; omega)
    (by rw [t1, t2]; show ¬ _ > ((arrV (D.1 (100 + 2)) n1 (fun j : Nat => .int (iI (g (j : Int))))).slots.size : Int); rw [arrV_size]; omega)
    (fun vm₁ hal i hi => by
      have e : (scr).slots.getD ((iI sp).toNatClampNeg + i) .null = .int (iI (f (((iI sp).toNatClampNeg + i : Nat) : Int))) := by
        rw [Array.getD_eq_getD_getElem?, hs5 _ (by omega)]
        rfl
      rw [e]
      exact ⟨fits_b (by have := hfit i (by omega) (by omega); rw [show (((iI sp).toNatClampNeg + i : Nat) : Int) = sp + i by omega]; exact this), trivial⟩)
    (g := F0 m pc ls (.int (iI n) :: .int (iI dp) :: .ref a :: .int (iI sp) :: .ref a0 :: st)) rfl (by rw [hc.2.2.1]; exact hl.1) (rest := st) rfl (by rw [hc.2.1]; exact d) hfr (by show 2 * 0 + _ + _ ≤ _; omega)
  have ec : copied (scr) (vp_cell (D.1 (100 + 2)) (n1, .inl (fun j : Nat => iI (g (j : Int))))) (iI sp) (iI dp) (iI n) = vp_cell (D.1 (100 + 2)) (n1, .inl (fun j : Nat => iI (cpF f g sp dp n (j : Int)))) := by
    rw [show vp_cell (D.1 (100 + 2)) (n1, .inl (fun j : Nat => iI (cpF f g sp dp n (j : Int)))) = vp_cell (D.1 (100 + 2)) (n1, .inl (va_cpy (fun j : Nat => iI (f (j : Int))) (fun j : Nat => iI (g (j : Int))) (iI sp).toNatClampNeg (iI dp).toNatClampNeg (iI n).toNatClampNeg)) from by rw [← cpF_cpy (fun z : Int => iI z) hsp.1 hdp.1 hnn e0 e1 e2]]
    exact va_copiedX (n0 := n0) (n1 := n1) (sp := (iI sp).toNatClampNeg) (dp := (iI dp).toNatClampNeg) (n := (iI n).toNatClampNeg) (fun z => .int z) scr (D.1 (100 + 2)) (fun j : Nat => iI (f (j : Int))) (fun j : Nat => iI (g (j : Int))) hs5 (by omega)
  rw [ec] at X' step
  have hl2 : a < H.size := (Array.getElem?_eq_some_iff.mp hc1).1
  have hheap : ((T.setVm vm').setCell a (vp_cell (D.1 (100 + 2)) (n1, .inl (fun j : Nat => iI (cpF f g sp dp n (j : Int)))))).heap = H.setIfInBounds a (vp_cell (D.1 (100 + 2)) (n1, .inl (fun j : Nat => iI (cpF f g sp dp n (j : Int))))) := by rw [← hT]; rfl
  obtain ⟨t, b1, b2⟩ := kk _ _ ls cells slots h1 h2 (gs_upL hg hG (e' := bA D n1 (cpF f g sp dp n)) (show (H.setIfInBounds a _)[a]? = some _ by simp [Array.getElem?_setIfInBounds, hl2]) (by simp) (fun q hq => by simp [Array.getElem?_setIfInBounds, Ne.symm hq]) (fun x hx => by obtain ⟨z, -, hz⟩ := List.mem_map.mp hx; rw [← hz])) hl _ hheap X'
  exact ⟨t, step t b1, b2⟩
theorem gw_ldcM (hc : cx p s m args meth c D X b0 own cc nL ret) {index : Nat} (d : decode cc pc = .ok (.ldc index, 2)) (hq : pc + 2 = q) (hlink : Cond.classLink own index dObj ∈ lw_all) (kk : GW p l e R s m args below meth c D b0 nL Q G bc bs q lv (.ref (X 6) :: st)) : GW p l e R s m args below meth c D b0 nL Q G bc bs pc lv st := by
  subst hq
  intro H locs ls cells slots h1 h2 hg hl
  exact va_ldcM hc.1 hc.2.1 hc.2.2.2.1 (hc.2.2.2.2.1 _ hlink) hc.2.2.2.2.2.2.2.2.2.1.2.2.2.2.2.2.2.2.2.2.2.2 d (kk H locs ls cells slots h1 h2 hg hl)
theorem gw_getC (hc : cx p s m args meth c D X b0 own cc nL ret) {a index n : Nat} {f : Int → Option Nat} (d : decode cc pc = .ok (.invokevirtual index, 3)) (hq : pc + 3 = q) (hlink : Cond.methodLink own index ⟨"java/lang/Object", "getClass", "()Ljava/lang/Class;"⟩ ∈ lw_all) (hdecl : Cond.declares ⟨"java/lang/Object", "getClass", "()Ljava/lang/Class;"⟩ ∈ lw_all) (hsel : Cond.selects dObj ⟨"java/lang/Object", "getClass", "()Ljava/lang/Class;"⟩ ⟨"java/lang/Object", "getClass", "()Ljava/lang/Class;"⟩ ∈ lw_all) (hinst : Cond.instanceMethod ⟨"java/lang/Object", "getClass", "()Ljava/lang/Class;"⟩ ∈ lw_all) (hnat : Cond.native ⟨"java/lang/Object", "getClass", "()Ljava/lang/Class;"⟩ ∈ lw_all) (hG : G a = some (qA D n f)) (hfr : 1 ≤ R.frames) (hlo : (st.map fun v => v.category).sum + 14 ≤ R.locals) (kk : GW p l e R s m args below meth c D b0 nL Q G bc bs q lv (.ref (X 6) :: st)) : GW p l e R s m args below meth c D b0 nL Q G bc bs pc lv (.ref a :: st) := by
  subst hq
  intro H locs ls cells slots h1 h2 hg hl
  have hw := hc.2.2.2.2.1
  obtain ⟨kA, comp, r1, r2, r3, r4⟩ := (hc.2.2.2.2.2.2.2.2.1.1.2 4 _ rfl).2
  exact va_getC hc.1 hc.2.1 (by rw [hc.2.2.1]; exact hl.1.symm) hc.2.2.2.1 (hw _ hlink) (hw _ hdecl) (hw _ hsel) (hw _ hinst) (hw _ hnat) hc.2.2.2.2.2.2.2.2.2.1.2.2.2.2.2.2.2.2.2.2.2.2 ⟨_, (hg.1 a _ hG).1, rfl, r4⟩ hfr hlo d (kk H locs ls cells slots h1 h2 hg hl)
end GWCP
