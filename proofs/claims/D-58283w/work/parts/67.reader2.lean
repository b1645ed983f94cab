/-! ===== READING ORDERS: numbers, orders ===== -/
set_option maxRecDepth 100000
section NM
variable (Pd : Int → Int) (ln : Int)
/-- behind a number: the spot, is it wrong -/
def nmS (q : Int) : Int := if dg Pd ln q < 0 then q else neF Pd ln q
def nmW (q : Int) : Int := if dg Pd ln q < 0 then 1 else if 0 < dg Pd ln q ∧ neF Pd ln q = q + 4 ∧ 0 ≤ dg Pd ln (q + 4) then 1 else 0
def ldA (q : Int) : Int := if dg Pd ln q < 0 then 0 else dg Pd ln q
def ldB (q : Int) : Int := if dg Pd ln q < 0 then 0 else if cd Pd ln (q + 1) = 61 then nuF Pd ln (q + 2) else 0
def ldS (q : Int) : Int := if dg Pd ln q < 0 then q else if cd Pd ln (q + 1) = 61 then nmS Pd ln (q + 2) else q + 1
def ldW (q : Int) : Int := if dg Pd ln q < 0 then 1 else if cd Pd ln (q + 1) = 61 then nmW Pd ln (q + 2) else 1
def orA (k : Nat) (q : Int) : Int := if k = 2 ∨ k = 3 then nuF Pd ln q else ldA Pd ln q
def orB (k : Nat) (q : Int) : Int := if k = 1 then ldB Pd ln q else 0
def orS (k : Nat) (q : Int) : Int := if k = 1 then ldS Pd ln q else if k = 2 ∨ k = 3 then nmS Pd ln q else if dg Pd ln q < 0 then q else q + 1
def orW (k : Nat) (q : Int) : Int := if k = 0 then 0 else if k = 1 then ldW Pd ln q else if k = 2 ∨ k = 3 then nmW Pd ln q else if dg Pd ln q < 0 then 1 else 0
end NM
section NM2
variable {Pd : Int → Int} {ln q : Int}
theorem nuS_1 : nuS Pd ln q 1 = dg Pd ln q := by
  simp only [nuS]
  rw [show q + ((0 : Nat) : Int) = q by omega]
  omega
theorem nuS_p (h : 0 < dg Pd ln q) : ∀ i : Nat, (∀ j : Nat, j < i + 1 → 0 ≤ dg Pd ln (q + j)) → 1 ≤ nuS Pd ln q (i + 1) ∧ nuS Pd ln q (i + 1) < tp (i + 1)
  | 0, _ => by
    have := dg_r (Pd := Pd) (ln := ln) (q := q)
    rw [nuS_1]
    simp only [tp]
    omega
  | i + 1, hj => by
    have ih := nuS_p h i (fun j h2 => hj j (by omega))
    have hd := hj (i + 1) (by omega)
    have hr := dg_r (Pd := Pd) (ln := ln) (q := q + (i + 1 : Nat))
    show 1 ≤ 10 * nuS Pd ln q (i + 1) + dg Pd ln (q + (i + 1 : Nat)) ∧ 10 * nuS Pd ln q (i + 1) + dg Pd ln (q + (i + 1 : Nat)) < tp (i + 1) * 10
    omega
theorem ne_i (h : 0 < dg Pd ln q) {i : Nat} (h1 : 1 ≤ i ∧ i ≤ 4) (hj : ∀ j : Nat, j < i → 0 ≤ dg Pd ln (q + j)) (he : i = 4 ∨ dg Pd ln (q + i) < 0) : neF Pd ln q = q + i := by
  have a1 := hj 1
  have a2 := hj 2
  have a3 := hj 3
  unfold neF
  rcases (by omega : i = 1 ∨ i = 2 ∨ i = 3 ∨ i = 4) with rfl | rfl | rfl | rfl
  · have he : dg Pd ln (q + 1) < 0 := by simpa using he
    rw [if_neg (by omega), if_neg (by omega), if_pos he]; rfl
  · have he : dg Pd ln (q + 2) < 0 := by simpa using he
    have a1 : 0 ≤ dg Pd ln (q + 1) := a1 (by omega)
    rw [if_neg (by omega), if_neg (by omega), if_neg (by omega), if_pos he]; rfl
  · have he : dg Pd ln (q + 3) < 0 := by simpa using he
    have a1 : 0 ≤ dg Pd ln (q + 1) := a1 (by omega)
    have a2 : 0 ≤ dg Pd ln (q + 2) := a2 (by omega)
    rw [if_neg (by omega), if_neg (by omega), if_neg (by omega), if_neg (by omega), if_pos he]; rfl
  · have a1 : 0 ≤ dg Pd ln (q + 1) := a1 (by omega)
    have a2 : 0 ≤ dg Pd ln (q + 2) := a2 (by omega)
    have a3 : 0 ≤ dg Pd ln (q + 3) := a3 (by omega)
    rw [if_neg (by omega), if_neg (by omega), if_neg (by omega), if_neg (by omega), if_neg (by omega)]; rfl
theorem nu_i {i : Nat} (h : neF Pd ln q = q + i) : nuF Pd ln q = nuS Pd ln q i := by
  unfold nuF
  rw [h, show (q + (i : Int) - q).toNat = i by omega]
theorem nu_0 (h : dg Pd ln q < 0) (h0 : 0 ≤ q) : nuF Pd ln q = 0 := by
  unfold nuF neF
  rw [if_pos h, show (-1 - q - q).toNat = 0 by omega]
  rfl
theorem nu_z (h : dg Pd ln q = 0) : nuF Pd ln q = 0 ∧ neF Pd ln q = q + 1 := by
  have e : neF Pd ln q = q + 1 := by unfold neF; rw [if_neg (by omega), if_pos h]
  refine ⟨?_, e⟩
  unfold nuF
  rw [e, show (q + 1 - q).toNat = 1 by omega, nuS_1, h]
theorem nmS_b (h0 : 0 ≤ q) : q ≤ nmS Pd ln q ∧ nmS Pd ln q ≤ q + 4 := by
  have := neF_r (Pd := Pd) (ln := ln) h0
  unfold nmS
  split <;> omega
theorem nmW_b : nmW Pd ln q = 0 ∨ nmW Pd ln q = 1 := by unfold nmW; (repeat' split) <;> simp
/-- what reading an order does, against where the twin says it ends -/
theorem or_oe (hp : padW Pd ln) (h0 : 0 ≤ q) (hk : kwF (cd Pd ln q) ≠ 6) : (oeF Pd ln q < 0 → orW Pd ln (kwF (cd Pd ln q)) (q + 1) = 1 ∧ orS Pd ln (kwF (cd Pd ln q)) (q + 1) = -1 - oeF Pd ln q) ∧
    (0 ≤ oeF Pd ln q → orS Pd ln (kwF (cd Pd ln q)) (q + 1) = oeF Pd ln q ∧ (q + 1 ≤ oeF Pd ln q ∧ oeF Pd ln q ≤ ln) ∧ (orW Pd ln (kwF (cd Pd ln q)) (q + 1) = 0 ∨ (orW Pd ln (kwF (cd Pd ln q)) (q + 1) = 1 ∧ oeF Pd ln q < ln ∧ cd Pd ln (oeF Pd ln q) ≠ 59))) := by
  have hq : q < ln := Classical.byContradiction fun z => hk (by unfold cd; rw [if_neg z]; rfl)
  have nm : ∀ p : Int, 0 ≤ p → (neF Pd ln p < 0 → nmW Pd ln p = 1 ∧ nmS Pd ln p = -1 - neF Pd ln p) ∧ (0 ≤ neF Pd ln p → nmS Pd ln p = neF Pd ln p ∧ (p + 1 ≤ neF Pd ln p ∧ neF Pd ln p ≤ ln) ∧ (nmW Pd ln p = 0 ∨ (nmW Pd ln p = 1 ∧ neF Pd ln p < ln ∧ cd Pd ln (neF Pd ln p) ≠ 59))) := fun p hp0 => by
    have hr := neF_r (Pd := Pd) (ln := ln) hp0
    rcases hr with hr | hr
    · have eS : nmS Pd ln p = p := by unfold nmS; rw [if_pos hr.2]
      have eW : nmW Pd ln p = 1 := by unfold nmW; rw [if_pos hr.2]
      rw [eS, eW]
      exact ⟨fun _ => ⟨rfl, by omega⟩, fun z => by omega⟩
    · have eS : nmS Pd ln p = neF Pd ln p := by unfold nmS; rw [if_neg (by omega)]
      have eW : nmW Pd ln p = if 0 < dg Pd ln p ∧ neF Pd ln p = p + 4 ∧ 0 ≤ dg Pd ln (p + 4) then 1 else 0 := by unfold nmW; rw [if_neg (by omega)]
      rw [eS, eW]
      refine ⟨fun z => by omega, fun _ => ⟨rfl, by omega, ?_⟩⟩
      by_cases c : 0 < dg Pd ln p ∧ neF Pd ln p = p + 4 ∧ 0 ≤ dg Pd ln (p + 4)
      · have h4 := dg_o c.2.2
        rw [if_pos c, c.2.1]
        refine Or.inr ⟨rfl, h4, ?_⟩
        have h5 := c.2.2
        unfold dg at h5
        rw [if_pos h4] at h5
        unfold cd
        rw [if_pos h4]
        split at h5 <;> omega
      · rw [if_neg c]; exact Or.inl rfl
  have n1 := nm (q + 1) (by omega)
  have n3 := nm (q + 3) (by omega)
  have d1 := dg_o (Pd := Pd) (ln := ln) (q := q + 1)
  have c2 : cd Pd ln (q + 2) = 61 → q + 2 < ln := fun z => cd_o z (by omega)
  obtain ⟨k0, k1, k2, k3, k4, k5, k6⟩ := kw_c (z := cd Pd ln q)
  rcases (by omega : kwF (cd Pd ln q) = 0 ∨ kwF (cd Pd ln q) = 1 ∨ (kwF (cd Pd ln q) = 2 ∨ kwF (cd Pd ln q) = 3) ∨ (kwF (cd Pd ln q) = 4 ∨ kwF (cd Pd ln q) = 5)) with e | e | e | e
  · have c := k0.mp e
    have eO : oeF Pd ln q = if dg Pd ln (q + 1) < 0 then q + 1 else q + 2 := by unfold oeF; rw [if_pos c]
    have eS : orS Pd ln 0 (q + 1) = if dg Pd ln (q + 1) < 0 then q + 1 else q + 1 + 1 := by unfold orS; rw [if_neg (by omega), if_neg (by omega)]
    have eW : orW Pd ln 0 (q + 1) = 0 := by unfold orW; rw [if_pos rfl]
    rw [e, eO, eS, eW]
    by_cases z : dg Pd ln (q + 1) < 0
    · rw [if_pos z, if_pos z]; exact ⟨fun y => by omega, fun _ => ⟨rfl, by omega, Or.inl rfl⟩⟩
    · rw [if_neg z, if_neg z]; exact ⟨fun y => by omega, fun _ => ⟨by omega, by omega, Or.inl rfl⟩⟩
  · have c := k1.mp e
    have eO : oeF Pd ln q = if dg Pd ln (q + 1) < 0 then -2 - q else if cd Pd ln (q + 2) = 61 then neF Pd ln (q + 3) else -3 - q := by unfold oeF; rw [if_neg (by omega), if_pos c]
    have eS : orS Pd ln 1 (q + 1) = if dg Pd ln (q + 1) < 0 then q + 1 else if cd Pd ln (q + 2) = 61 then nmS Pd ln (q + 3) else q + 2 := by unfold orS ldS; rw [if_pos rfl, show q + 1 + 1 = q + 2 by omega, show q + 1 + 2 = q + 3 by omega]
    have eW : orW Pd ln 1 (q + 1) = if dg Pd ln (q + 1) < 0 then 1 else if cd Pd ln (q + 2) = 61 then nmW Pd ln (q + 3) else 1 := by unfold orW ldW; rw [if_neg (by omega), if_pos rfl, show q + 1 + 1 = q + 2 by omega, show q + 1 + 2 = q + 3 by omega]
    rw [e, eO, eS, eW]
    by_cases z : dg Pd ln (q + 1) < 0
    · rw [if_pos z, if_pos z, if_pos z]; exact ⟨fun _ => ⟨rfl, by omega⟩, fun y => by omega⟩
    · rw [if_neg z, if_neg z, if_neg z]
      by_cases y : cd Pd ln (q + 2) = 61
      · rw [if_pos y, if_pos y, if_pos y]
        exact ⟨n3.1, fun x => ⟨(n3.2 x).1, by have := (n3.2 x).2.1; omega, (n3.2 x).2.2⟩⟩
      · rw [if_neg y, if_neg y, if_neg y]; exact ⟨fun _ => ⟨rfl, by omega⟩, fun x => by omega⟩
  · have c : cd Pd ln q = 115 ∨ cd Pd ln q = 116 := e.imp k2.mp k3.mp
    have eO : oeF Pd ln q = neF Pd ln (q + 1) := by unfold oeF; rw [if_neg (by omega), if_neg (by omega), if_pos c]
    have eS : orS Pd ln (kwF (cd Pd ln q)) (q + 1) = nmS Pd ln (q + 1) := by unfold orS; rw [if_neg (by omega), if_pos e]
    have eW : orW Pd ln (kwF (cd Pd ln q)) (q + 1) = nmW Pd ln (q + 1) := by unfold orW; rw [if_neg (by omega), if_neg (by omega), if_pos e]
    rw [eO, eS, eW]
    exact ⟨n1.1, fun x => ⟨(n1.2 x).1, by have := (n1.2 x).2.1; omega, (n1.2 x).2.2⟩⟩
  · have c : cd Pd ln q = 98 ∨ cd Pd ln q = 118 := e.imp k4.mp k5.mp
    have eO : oeF Pd ln q = if dg Pd ln (q + 1) < 0 then -2 - q else q + 2 := by unfold oeF; rw [if_neg (by omega), if_neg (by omega), if_neg (by omega), if_pos c]
    have eS : orS Pd ln (kwF (cd Pd ln q)) (q + 1) = if dg Pd ln (q + 1) < 0 then q + 1 else q + 1 + 1 := by unfold orS; rw [if_neg (by omega), if_neg (by omega)]
    have eW : orW Pd ln (kwF (cd Pd ln q)) (q + 1) = if dg Pd ln (q + 1) < 0 then 1 else 0 := by unfold orW; rw [if_neg (by omega), if_neg (by omega), if_neg (by omega)]
    rw [eO, eS, eW]
    by_cases z : dg Pd ln (q + 1) < 0
    · rw [if_pos z, if_pos z, if_pos z]; exact ⟨fun _ => ⟨rfl, by omega⟩, fun y => by omega⟩
    · rw [if_neg z, if_neg z, if_neg z]; exact ⟨fun y => by omega, fun _ => ⟨by omega, by omega, Or.inl rfl⟩⟩
theorem oe_6 (hk : kwF (cd Pd ln q) = 6) : oeF Pd ln q = -1 - q := by
  obtain ⟨k0, k1, k2, k3, k4, k5, k6⟩ := kw_c (z := cd Pd ln q)
  unfold oeF
  rw [if_neg (fun z => by have := k0.mpr z; omega), if_neg (fun z => by have := k1.mpr z; omega), if_neg (fun z => by rcases z with z | z; (have := k2.mpr z; omega); (have := k3.mpr z; omega)), if_neg (fun z => by rcases z with z | z; (have := k4.mpr z; omega); (have := k5.mpr z; omega))]
theorem orS_b {k : Nat} (h0 : 0 ≤ q) : q ≤ orS Pd ln k q ∧ orS Pd ln k q ≤ q + 6 := by
  have n1 := nmS_b (Pd := Pd) (ln := ln) h0
  have n3 := nmS_b (Pd := Pd) (ln := ln) (q := q + 2) (by omega)
  unfold orS ldS
  (repeat' split) <;> omega
theorem orW_b {k : Nat} : orW Pd ln k q = 0 ∨ orW Pd ln k q = 1 := by
  have n1 := nmW_b (Pd := Pd) (ln := ln) (q := q)
  have n3 := nmW_b (Pd := Pd) (ln := ln) (q := q + 2)
  unfold orW ldW
  (repeat' split) <;> simp_all
end NM2
theorem gup_xr {G : gM} {x rd : Nat} {a b c : va_E} (h : x ≠ rd) : gup (gup (gup G x a) rd b) x c = gup (gup G x c) rd b := by
  rw [gup_comm (Ne.symm h), gup_gup]

theorem mw_X5_digit : mV "EnergyDiscs$Reader" yX5_digit cX5_digit 1 (some FieldType.int) 0 := ⟨⟨rfl, by decide +kernel, by decide +kernel, by decide +kernel⟩, q1164, qs35, q95, q1165⟩
set_option maxHeartbeats 4000000 in
theorem m_X5_number {l : Launch} {D : va_G} {X : Nat → Nat} {b0 : Nat} {tg : Nat → Nat} {rd ol e a0 pl sv pd : Nat} {sp ln : Int} {Pd : Int → Int} {G : gM} (hR : G rd = some (rdO ol sp 0 e)) (hE : G e = some (edO a0 pl sv pd)) (hS : sbR D tg 996 pd ln Pd G) (hp : padW Pd ln) (hsp : 0 ≤ sp ∧ sp ≤ 90) : gMet l D X b0 yX5_number cX5_number 3 (some FieldType.int) (rmE 8 0 0) [.ref rd] G (pI fun r G' => r = nuF Pd ln sp ∧ G' = gup G rd (rdO ol (nmS Pd ln sp) (nmW Pd ln sp) e)) := by
  refine gm_start (own := "EnergyDiscs$Reader") (lv := [some (.ref rd), none, none]) (by decide +kernel) rfl (Nat.le_of_ble_eq_true rfl) rfl (fun p_ e_ s_ m_ args_ below_ meth_ c_ hc hnm => ?_)
  obtain ⟨vl, mb, cap, f, hG, -⟩ := id hS
  have hpb := hp.1
  have hre : rd ≠ e := fun z => by rw [z, hE] at hR; cases hR
  have hd0 := dg_r (Pd := Pd) (ln := ln) (q := sp)
  refine gw_aload_n (q := 1) hc dX5_number_0 rfl rfl xg_0 ?_
  refine gw_callV (q := 4) (bc' := 0) (bs' := 0) (As := []) hc dX5_number_1 rfl q1162 mw_X5_digit (rc_o hc cE_RE hR) rfl rfl (m_X5_digit hR hE hS hp (by omega) (Or.inl rfl)) ⟨Nat.le_of_ble_eq_true rfl, Nat.le_of_ble_eq_true rfl⟩ (Nat.le_of_ble_eq_true rfl) (Nat.le_of_ble_eq_true rfl) (Nat.le_of_ble_eq_true rfl) (goI fun r1 G1 h1 => ?_)
  obtain ⟨er1, hgg⟩ := h1
  rw [hgg, er1]
  rcases (by omega : dg Pd ln sp < 0 ∨ dg Pd ln sp = 0 ∨ 0 < dg Pd ln sp) with c4d | c4d | c4d
  · rw [if_neg (by omega), if_neg (by omega), if_neg (by omega)]
    refine gw_istore_n (q := 5) hc dX5_number_4 rfl rfl xs_1 (by decide) (n2p xg_0 rfl) ?_
    refine gw_iconst (q := 6) hc dX5_number_5 rfl ?_
    refine gw_istore_n (q := 7) hc dX5_number_6 rfl rfl xs_2 (by decide) (n2p xg_1 rfl) ?_
    refine gw_iload_n (q := 8) hc dX5_number_7 rfl rfl xg_2 ?_
    refine gw_iconst (q := 9) hc dX5_number_8 rfl ?_
    refine gw_icmp_ge  (q := 12) (t := 39) hc dX5_number_9 rfl (by decide) (by omega) (by omega) (fun c9 => ?_) (fun c9 => ?_)
    · exfalso; omega
    · skip
      refine gw_iload_n (q := 13) hc dX5_number_12 rfl rfl xg_1 ?_
      refine gw_if_le  (q := 16) (t := 39) hc dX5_number_13 rfl (by decide) (by omega) (fun c13 => ?_) (fun c13 => ?_)
      · skip
        refine gw_aload_n (q := 40) hc dX5_number_39 rfl rfl xg_0 ?_
        refine gw_aload_n (q := 41) hc dX5_number_40 rfl rfl xg_0 ?_
        refine gw_get (q := 44) hc dX5_number_41 rfl cE_RE 2 (by decide) q1202 (fun _ h => h) gup_s rfl ?_
        refine gw_if_ne  (q := 47) (t := 58) hc dX5_number_44 rfl (by decide) (by omega) (fun c44 => ?_) (fun c44 => ?_)
        · skip
          refine gw_iconst (q := 59) hc dX5_number_58 rfl ?_
          refine gw_goto (q := 63) hc dX5_number_59 (by decide) ?_
          refine gw_put (q := 66) hc dX5_number_63 rfl cE_RE 2 (by decide) q1202 (fun _ h => h) rfl gup_s (nz (by omega)) rfl (Nat.le_of_ble_eq_true rfl) ?_
          refine gw_iload_n (q := 67) hc dX5_number_66 rfl rfl xg_1 ?_
          exact gw_iret hc dX5_number_67 ⟨_, rfl, ⟨(nu_0 c4d hsp.1).symm, by unfold nmS nmW; rw [if_pos c4d, if_pos c4d]; exact gup_gup⟩⟩
        · exfalso; omega
      · exfalso; omega
  · rw [if_pos ⟨rfl, by omega⟩, if_pos ⟨rfl, by omega⟩, if_pos ⟨rfl, by omega⟩]
    rw [c4d]
    refine gw_istore_n (q := 5) hc dX5_number_4 rfl rfl xs_1 (by decide) (n2p xg_0 rfl) ?_
    refine gw_iconst (q := 6) hc dX5_number_5 rfl ?_
    refine gw_istore_n (q := 7) hc dX5_number_6 rfl rfl xs_2 (by decide) (n2p xg_1 rfl) ?_
    refine gw_iload_n (q := 8) hc dX5_number_7 rfl rfl xg_2 ?_
    refine gw_iconst (q := 9) hc dX5_number_8 rfl ?_
    refine gw_icmp_ge  (q := 12) (t := 39) hc dX5_number_9 rfl (by decide) (by omega) (by omega) (fun c9 => ?_) (fun c9 => ?_)
    · exfalso; omega
    · skip
      refine gw_iload_n (q := 13) hc dX5_number_12 rfl rfl xg_1 ?_
      refine gw_if_le  (q := 16) (t := 39) hc dX5_number_13 rfl (by decide) (by omega) (fun c13 => ?_) (fun c13 => ?_)
      · skip
        refine gw_aload_n (q := 40) hc dX5_number_39 rfl rfl xg_0 ?_
        refine gw_aload_n (q := 41) hc dX5_number_40 rfl rfl xg_0 ?_
        refine gw_get (q := 44) hc dX5_number_41 rfl cE_RE 2 (by decide) q1202 (fun _ h => h) gup_s rfl ?_
        refine gw_if_ne  (q := 47) (t := 58) hc dX5_number_44 rfl (by decide) (by omega) (fun c44 => ?_) (fun c44 => ?_)
        · exfalso; omega
        · skip
          refine gw_iload_n (q := 48) hc dX5_number_47 rfl rfl xg_1 ?_
          refine gw_if_le  (q := 51) (t := 62) hc dX5_number_48 rfl (by decide) (by omega) (fun c48 => ?_) (fun c48 => ?_)
          · skip
            refine gw_iconst (q := 63) hc dX5_number_62 rfl ?_
            refine gw_put (q := 66) hc dX5_number_63 rfl cE_RE 2 (by decide) q1202 (fun _ h => h) rfl gup_s (nz (by omega)) rfl (Nat.le_of_ble_eq_true rfl) ?_
            refine gw_iload_n (q := 67) hc dX5_number_66 rfl rfl xg_1 ?_
            exact gw_iret hc dX5_number_67 ⟨_, rfl, ⟨(nu_z c4d).1.symm, by unfold nmS nmW; rw [if_neg (by omega), if_neg (by omega), if_neg (by omega), (nu_z c4d).2]; exact gup_gup⟩⟩
          · exfalso; omega
      · exfalso; omega
  · rw [if_pos ⟨rfl, by omega⟩, if_pos ⟨rfl, by omega⟩, if_pos ⟨rfl, by omega⟩]
    refine gw_istore_n (q := 5) hc dX5_number_4 rfl rfl xs_1 (by decide) (n2p xg_0 rfl) ?_
    refine gw_iconst (q := 6) hc dX5_number_5 rfl ?_
    refine gw_istore_n (q := 7) hc dX5_number_6 rfl rfl xs_2 (by decide) (n2p xg_1 rfl) ?_
    refine gw_lv (show _ = [some (.ref rd), some (.int (iI (nuS Pd ln sp 1))), some (.int (iI (((1 : Nat) : Int) - 1)))] from by rw [nuS_1]; rfl) ?_
    refine gw_loop (σ := Nat) (fun x => (1 ≤ x ∧ x ≤ 4) ∧ ∀ j : Nat, j < x → 0 ≤ dg Pd ln (sp + j)) (fun x => 5 - x) (fun x => gup G rd (rdO ol (sp + (x : Int)) 0 e)) (fun x => [some (.ref rd), some (.int (iI (nuS Pd ln sp x))), some (.int (iI ((x : Int) - 1)))]) ?_ 1 ⟨by omega, fun j hj => by rw [show j = 0 by omega, show sp + ((0 : Nat) : Int) = sp by omega]; omega⟩
    rintro i hI7 ih7
    try dsimp only at hI7 ⊢
    obtain ⟨i0, hi0⟩ : ∃ i0, i = i0 + 1 := ⟨i - 1, by omega⟩
    have hnu := nuS_p c4d i0 (by rw [← hi0]; exact hI7.2)
    rw [← hi0] at hnu
    have htb := tp_bd (k := i) (by omega)
    refine gw_iload_n (q := 8) hc dX5_number_7 rfl rfl xg_2 ?_
    refine gw_iconst (q := 9) hc dX5_number_8 rfl ?_
    refine gw_icmp_ge  (q := 12) (t := 39) hc dX5_number_9 rfl (by decide) (by omega) (by omega) (fun c9 => ?_) (fun c9 => ?_)
    · have hne := ne_i c4d hI7.1 hI7.2 (Or.inl (by omega))
      have hnu2 := nu_i hne
      refine gw_aload_n (q := 40) hc dX5_number_39 rfl rfl xg_0 ?_
      refine gw_aload_n (q := 41) hc dX5_number_40 rfl rfl xg_0 ?_
      refine gw_get (q := 44) hc dX5_number_41 rfl cE_RE 2 (by decide) q1202 (fun _ h => h) gup_s rfl ?_
      refine gw_if_ne  (q := 47) (t := 58) hc dX5_number_44 rfl (by decide) (by omega) (fun c44 => ?_) (fun c44 => ?_)
      · exfalso; omega
      · skip
        refine gw_iload_n (q := 48) hc dX5_number_47 rfl rfl xg_1 ?_
        refine gw_if_le  (q := 51) (t := 62) hc dX5_number_48 rfl (by decide) (by omega) (fun c48 => ?_) (fun c48 => ?_)
        · exfalso; omega
        · skip
          refine gw_aload_n (q := 52) hc dX5_number_51 rfl rfl xg_0 ?_
          refine gw_callV (q := 55) (bc' := 0) (bs' := 0) (As := []) hc dX5_number_52 rfl q1155 mw_X5_seesDigit (rc_o hc cE_RE gup_s) rfl rfl (m_X5_seesDigit gup_s (by rw [gup_n (Ne.symm hre)]; exact hE) (sb_up hS hR (by decide)) hp (by omega) (Or.inl rfl)) ⟨Nat.le_of_ble_eq_true rfl, Nat.le_of_ble_eq_true rfl⟩ (Nat.le_of_ble_eq_true rfl) (Nat.le_of_ble_eq_true rfl) (Nat.le_of_ble_eq_true rfl) (goI fun r52 G52 h52 => ?_)
          obtain ⟨b52, hgg⟩ := h52
          rw [hgg]
          refine gw_if_eq  (q := 58) (t := 62) hc dX5_number_55 rfl (by decide) (by omega) (fun c55 => ?_) (fun c55 => ?_)
          · skip
            have hw4 : ¬ (0 < dg Pd ln sp ∧ sp + (i : Int) = sp + 4 ∧ 0 ≤ dg Pd ln (sp + 4)) := fun z => by have h4 := z.2.2; rw [show sp + 4 = sp + (i : Int) from z.2.1.symm] at h4; omega
            refine gw_iconst (q := 63) hc dX5_number_62 rfl ?_
            refine gw_put (q := 66) hc dX5_number_63 rfl cE_RE 2 (by decide) q1202 (fun _ h => h) rfl gup_s (nz (by omega)) rfl (Nat.le_of_ble_eq_true rfl) ?_
            refine gw_iload_n (q := 67) hc dX5_number_66 rfl rfl xg_1 ?_
            exact gw_iret hc dX5_number_67 ⟨_, rfl, ⟨hnu2.symm, by unfold nmS nmW; rw [if_neg (by omega), if_neg (by omega), hne, if_neg hw4]; exact gup_gup⟩⟩
          · skip
            refine gw_iconst (q := 59) hc dX5_number_58 rfl ?_
            refine gw_goto (q := 63) hc dX5_number_59 (by decide) ?_
            refine gw_put (q := 66) hc dX5_number_63 rfl cE_RE 2 (by decide) q1202 (fun _ h => h) rfl gup_s (nz (by omega)) rfl (Nat.le_of_ble_eq_true rfl) ?_
            refine gw_iload_n (q := 67) hc dX5_number_66 rfl rfl xg_1 ?_
            exact gw_iret hc dX5_number_67 ⟨_, rfl, ⟨hnu2.symm, by unfold nmS nmW; rw [if_neg (by omega), if_neg (by omega), hne, if_pos ⟨by omega, by omega, by rw [show sp + 4 = sp + (i : Int) by omega]; omega⟩]; exact gup_gup⟩⟩
    · skip
      refine gw_iload_n (q := 13) hc dX5_number_12 rfl rfl xg_1 ?_
      refine gw_if_le  (q := 16) (t := 39) hc dX5_number_13 rfl (by decide) (by omega) (fun c13 => ?_) (fun c13 => ?_)
      · exfalso; omega
      · skip
        refine gw_aload_n (q := 17) hc dX5_number_16 rfl rfl xg_0 ?_
        refine gw_callV (q := 20) (bc' := 0) (bs' := 0) (As := []) hc dX5_number_17 rfl q1155 mw_X5_seesDigit (rc_o hc cE_RE gup_s) rfl rfl (m_X5_seesDigit gup_s (by rw [gup_n (Ne.symm hre)]; exact hE) (sb_up hS hR (by decide)) hp (by omega) (Or.inl rfl)) ⟨Nat.le_of_ble_eq_true rfl, Nat.le_of_ble_eq_true rfl⟩ (Nat.le_of_ble_eq_true rfl) (Nat.le_of_ble_eq_true rfl) (Nat.le_of_ble_eq_true rfl) (goI fun r17 G17 h17 => ?_)
        obtain ⟨b17, hgg⟩ := h17
        rw [hgg]
        refine gw_if_eq  (q := 23) (t := 39) hc dX5_number_20 rfl (by decide) (by omega) (fun c20 => ?_) (fun c20 => ?_)
        · have hne := ne_i c4d hI7.1 hI7.2 (Or.inr (by omega))
          have hnu2 := nu_i hne
          refine gw_aload_n (q := 40) hc dX5_number_39 rfl rfl xg_0 ?_
          refine gw_aload_n (q := 41) hc dX5_number_40 rfl rfl xg_0 ?_
          refine gw_get (q := 44) hc dX5_number_41 rfl cE_RE 2 (by decide) q1202 (fun _ h => h) gup_s rfl ?_
          refine gw_if_ne  (q := 47) (t := 58) hc dX5_number_44 rfl (by decide) (by omega) (fun c44 => ?_) (fun c44 => ?_)
          · exfalso; omega
          · skip
            refine gw_iload_n (q := 48) hc dX5_number_47 rfl rfl xg_1 ?_
            refine gw_if_le  (q := 51) (t := 62) hc dX5_number_48 rfl (by decide) (by omega) (fun c48 => ?_) (fun c48 => ?_)
            · exfalso; omega
            · skip
              refine gw_aload_n (q := 52) hc dX5_number_51 rfl rfl xg_0 ?_
              refine gw_callV (q := 55) (bc' := 0) (bs' := 0) (As := []) hc dX5_number_52 rfl q1155 mw_X5_seesDigit (rc_o hc cE_RE gup_s) rfl rfl (m_X5_seesDigit gup_s (by rw [gup_n (Ne.symm hre)]; exact hE) (sb_up hS hR (by decide)) hp (by omega) (Or.inl rfl)) ⟨Nat.le_of_ble_eq_true rfl, Nat.le_of_ble_eq_true rfl⟩ (Nat.le_of_ble_eq_true rfl) (Nat.le_of_ble_eq_true rfl) (Nat.le_of_ble_eq_true rfl) (goI fun r52 G52 h52 => ?_)
              obtain ⟨b52, hgg⟩ := h52
              rw [hgg]
              refine gw_if_eq  (q := 58) (t := 62) hc dX5_number_55 rfl (by decide) (by omega) (fun c55 => ?_) (fun c55 => ?_)
              · skip
                have hw4 : ¬ (0 < dg Pd ln sp ∧ sp + (i : Int) = sp + 4 ∧ 0 ≤ dg Pd ln (sp + 4)) := fun z => by have h4 := z.2.2; rw [show sp + 4 = sp + (i : Int) from z.2.1.symm] at h4; omega
                refine gw_iconst (q := 63) hc dX5_number_62 rfl ?_
                refine gw_put (q := 66) hc dX5_number_63 rfl cE_RE 2 (by decide) q1202 (fun _ h => h) rfl gup_s (nz (by omega)) rfl (Nat.le_of_ble_eq_true rfl) ?_
                refine gw_iload_n (q := 67) hc dX5_number_66 rfl rfl xg_1 ?_
                exact gw_iret hc dX5_number_67 ⟨_, rfl, ⟨hnu2.symm, by unfold nmS nmW; rw [if_neg (by omega), if_neg (by omega), hne, if_neg hw4]; exact gup_gup⟩⟩
              · skip
                refine gw_iconst (q := 59) hc dX5_number_58 rfl ?_
                refine gw_goto (q := 63) hc dX5_number_59 (by decide) ?_
                refine gw_put (q := 66) hc dX5_number_63 rfl cE_RE 2 (by decide) q1202 (fun _ h => h) rfl gup_s (nz (by omega)) rfl (Nat.le_of_ble_eq_true rfl) ?_
                refine gw_iload_n (q := 67) hc dX5_number_66 rfl rfl xg_1 ?_
                exact gw_iret hc dX5_number_67 ⟨_, rfl, ⟨hnu2.symm, by unfold nmS nmW; rw [if_neg (by omega), if_neg (by omega), hne, if_pos ⟨by omega, by omega, by rw [show sp + 4 = sp + (i : Int) by omega]; omega⟩]; exact gup_gup⟩⟩
        · skip
          refine gw_bipush (q := 25) hc dX5_number_23 rfl (by decide) ?_
          refine gw_iload_n (q := 26) hc dX5_number_25 rfl rfl xg_1 ?_
          refine gw_imul (q := 27) hc dX5_number_26 rfl ?_
          refine gw_aload_n (q := 28) hc dX5_number_27 rfl rfl xg_0 ?_
          refine gw_callV (q := 31) (bc' := 0) (bs' := 0) (As := []) hc dX5_number_28 rfl q1162 mw_X5_digit (rc_o hc cE_RE gup_s) rfl rfl (m_X5_digit gup_s (by rw [gup_n (Ne.symm hre)]; exact hE) (sb_up hS hR (by decide)) hp (by omega) (Or.inl rfl)) ⟨Nat.le_of_ble_eq_true rfl, Nat.le_of_ble_eq_true rfl⟩ (Nat.le_of_ble_eq_true rfl) (Nat.le_of_ble_eq_true rfl) (Nat.le_of_ble_eq_true rfl) (goI fun r28 G28 h28 => ?_)
          obtain ⟨er28, hgg⟩ := h28
          rw [hgg, er28, if_pos ⟨rfl, by omega⟩, if_pos ⟨rfl, by omega⟩, if_pos ⟨rfl, by omega⟩]
          refine gw_iadd (q := 32) hc dX5_number_31 rfl ?_
          refine gw_istore_n (q := 33) hc dX5_number_32 rfl rfl xs_1 (by decide) (n2p xg_0 rfl) ?_
          refine gw_iinc (q := 36) hc dX5_number_33 rfl xg_2 xs_2 (by decide) (n2p xg_1 rfl) ?_
          refine gw_G gup_gup ?_
          refine gw_lv (show _ = [some (.ref rd), some (.int (iI (nuS Pd ln sp (i + 1)))), some (.int (iI (((i + 1 : Nat) : Int) - 1)))] from by rw [show ((i + 1 : Nat) : Int) - 1 = (i : Int) - 1 + 1 by omega]; rfl) ?_
          refine gw_G (show _ = gup G rd (rdO ol (sp + ((i + 1 : Nat) : Int)) 0 e) from by rw [show sp + ((i + 1 : Nat) : Int) = sp + (i : Int) + 1 by omega]) ?_
          refine gw_goto (q := 7) hc dX5_number_36 (by decide) ?_
          exact ih7 (i + 1) ⟨by omega, fun j hj => by by_cases q : j = i; (rw [q]; omega); exact hI7.2 j (by omega)⟩ (by omega)

set_option maxHeartbeats 4000000 in
theorem m_X5_number_w {l : Launch} {D : va_G} {X : Nat → Nat} {b0 : Nat} {tg : Nat → Nat} {rd ol e a0 pl sv pd : Nat} {sp ln : Int} {Pd : Int → Int} {G : gM} (hR : G rd = some (rdO ol sp 1 e)) (hE : G e = some (edO a0 pl sv pd)) (hS : sbR D tg 996 pd ln Pd G) (hp : padW Pd ln) (hsp : 0 ≤ sp ∧ sp ≤ 90) : gMet l D X b0 yX5_number cX5_number 3 (some FieldType.int) (rmE 8 0 0) [.ref rd] G (pI fun r G' => r = 0 ∧ G' = gup G rd (rdO ol sp 1 e)) := by
  refine gm_start (own := "EnergyDiscs$Reader") (lv := [some (.ref rd), none, none]) (by decide +kernel) rfl (Nat.le_of_ble_eq_true rfl) rfl (fun p_ e_ s_ m_ args_ below_ meth_ c_ hc hnm => ?_)
  obtain ⟨vl, mb, cap, f, hG, -⟩ := id hS
  have hpb := hp.1
  have hre : rd ≠ e := fun z => by rw [z, hE] at hR; cases hR
  refine gw_aload_n (q := 1) hc dX5_number_0 rfl rfl xg_0 ?_
  refine gw_callV (q := 4) (bc' := 0) (bs' := 0) (As := []) hc dX5_number_1 rfl q1162 mw_X5_digit (rc_o hc cE_RE hR) rfl rfl (m_X5_digit hR hE hS hp (by omega) (Or.inr rfl)) ⟨Nat.le_of_ble_eq_true rfl, Nat.le_of_ble_eq_true rfl⟩ (Nat.le_of_ble_eq_true rfl) (Nat.le_of_ble_eq_true rfl) (Nat.le_of_ble_eq_true rfl) (goI fun r1 G1 h1 => ?_)
  obtain ⟨er1, hgg⟩ := h1
  rw [hgg, er1, if_neg (fun z => by have := z.1; omega), if_neg (fun z => by have := z.1; omega), if_neg (fun z => by have := z.1; omega)]
  refine gw_istore_n (q := 5) hc dX5_number_4 rfl rfl xs_1 (by decide) (n2p xg_0 rfl) ?_
  refine gw_iconst (q := 6) hc dX5_number_5 rfl ?_
  refine gw_istore_n (q := 7) hc dX5_number_6 rfl rfl xs_2 (by decide) (n2p xg_1 rfl) ?_
  refine gw_iload_n (q := 8) hc dX5_number_7 rfl rfl xg_2 ?_
  refine gw_iconst (q := 9) hc dX5_number_8 rfl ?_
  refine gw_icmp_ge  (q := 12) (t := 39) hc dX5_number_9 rfl (by decide) (by omega) (by omega) (fun c9 => ?_) (fun c9 => ?_)
  · exfalso; omega
  · skip
    refine gw_iload_n (q := 13) hc dX5_number_12 rfl rfl xg_1 ?_
    refine gw_if_le  (q := 16) (t := 39) hc dX5_number_13 rfl (by decide) (by omega) (fun c13 => ?_) (fun c13 => ?_)
    · skip
      refine gw_aload_n (q := 40) hc dX5_number_39 rfl rfl xg_0 ?_
      refine gw_aload_n (q := 41) hc dX5_number_40 rfl rfl xg_0 ?_
      refine gw_get (q := 44) hc dX5_number_41 rfl cE_RE 2 (by decide) q1202 (fun _ h => h) gup_s rfl ?_
      refine gw_if_ne  (q := 47) (t := 58) hc dX5_number_44 rfl (by decide) (by omega) (fun c44 => ?_) (fun c44 => ?_)
      · skip
        refine gw_iconst (q := 59) hc dX5_number_58 rfl ?_
        refine gw_goto (q := 63) hc dX5_number_59 (by decide) ?_
        refine gw_put (q := 66) hc dX5_number_63 rfl cE_RE 2 (by decide) q1202 (fun _ h => h) rfl gup_s (nz (by omega)) rfl (Nat.le_of_ble_eq_true rfl) ?_
        refine gw_iload_n (q := 67) hc dX5_number_66 rfl rfl xg_1 ?_
        exact gw_iret hc dX5_number_67 ⟨_, rfl, ⟨rfl, gup_gup⟩⟩
      · exfalso; omega
    · exfalso; omega

