/-! ===== THE TWO OBJECTS ARE MADE ===== -/
set_option maxRecDepth 100000
abbrev zr : Int → Int := fun _ => 0
def alf (a x y z u v : Nat) : Nat → Nat := fun j => if j = 0 then a else if j = 1 then x else if j = 2 then y else if j = 3 then z else if j = 4 then u else v
abbrev tw0 : Int → Int := fu (fu (fu (fu (fu (fu zr 0 15) 1 2) 2 1) 3 1000) 4 9) 5 5
theorem tw0_row : ∀ i, tw0 i = row0 i := fun i => by
  unfold tw0 row0 fu
  by_cases h0 : i = 0
  · subst h0; rfl
  by_cases h1 : i = 1
  · subst h1; rfl
  by_cases h2 : i = 2
  · subst h2; rfl
  by_cases h3 : i = 3
  · subst h3; rfl
  by_cases h4 : i = 4
  · subst h4; rfl
  by_cases h5 : i = 5
  · subst h5; rfl
  rw [if_neg h5, if_neg h4, if_neg h3, if_neg h2, if_neg h1, if_neg h0, if_neg h0, if_neg h1, if_neg h2, if_neg h3, if_neg h4, if_neg h5]
theorem tw_new {D : va_G} {a x y z u v : Nat} {G : gM} {S : Int → Int} (hd : [a, x, y, z, u, v].Nodup) :
    gup (gup (gup (gup (gup (gup (gup G x (jA D 276 zr)) y (jA D 828 zr)) z (jA D 276 zr)) u (zA D 2 zr)) v (iA D 80 zr)) a (oE 2 [.ref x, .ref y, .int (iI 0), .ref z, .ref u, .ref v, .int (iI 0)])) x (jA D 276 S) = tG D (alf a x y z u v) S zr 0 zr zr zr 0 G := by
  simp only [List.nodup_cons, List.mem_cons, List.not_mem_nil, or_false, not_or, List.nodup_nil, and_true] at hd
  obtain ⟨⟨a1, a2, a3, a4, a5⟩, ⟨b2, b3, b4, b5⟩, ⟨c3, c4, c5⟩, ⟨d4, d5⟩, e5, -⟩ := hd
  funext q
  show _ = gup (gup (gup (gup (gup (gup G v (iA D 80 zr)) u (zA D 2 zr)) z (jA D 276 zr)) y (jA D 828 zr)) x (jA D 276 S)) a (oE 2 [.ref x, .ref y, .int (iI 0), .ref z, .ref u, .ref v, .int (iI 0)]) q
  by_cases h0 : q = x
  · subst h0; rw [gup_s, gup_n (Ne.symm a1), gup_s]
  rw [gup_n h0]
  by_cases h1 : q = a
  · subst h1; rw [gup_s, gup_s]
  rw [gup_n h1, gup_n h1, gup_n h0]
  by_cases h2 : q = v
  · subst h2; rw [gup_s, gup_n (Ne.symm c5), gup_n (Ne.symm d5), gup_n (Ne.symm e5), gup_s]
  rw [gup_n h2]
  by_cases h3 : q = u
  · subst h3; rw [gup_s, gup_n (Ne.symm c4), gup_n (Ne.symm d4), gup_s]
  rw [gup_n h3]
  by_cases h4 : q = z
  · subst h4; rw [gup_s, gup_n (Ne.symm c3), gup_s]
  rw [gup_n h4]
  by_cases h5 : q = y
  · subst h5; rw [gup_s, gup_s]
  rw [gup_n h5, gup_n h0, gup_n h5, gup_n h4, gup_n h3, gup_n h2]

section NMG
variable {p : Program} {l : Launch} {e : Env} {R : Room} {s : State} {m : MethodId} {args : Array Value} {below : List Frame} {meth : Method} {c : Code} {Q : State → Prop}
variable {D : va_G} {X : Nat → Nat} {b0 nL bc bs pc q : Nat} {own : String} {cc : ByteArray} {ret : Option FieldType} {G : gM} {lv lv' lv1 : List (Option Value)} {st : List Value}
theorem gw_nm (k : ∀ G1 : gM, G1 = G → GW p l e R s m args below meth c D b0 nL Q G1 bc bs pc lv st) : GW p l e R s m args below meth c D b0 nL Q G bc bs pc lv st := k G rfl
end NMG

set_option maxHeartbeats 4000000 in
theorem m_X2_init {l : Launch} {D : va_G} {X : Nat → Nat} {b0 : Nat} {a : Nat} {G : gM} (hG : G a = some (oE 2 [.null, .null, .int (iI 0), .null, .null, .null, .int (iI 0)])) : gMet l D X b0 yX2_init cX2_init 1 none (rmE 1 5 1462) [.ref a] G (pV fun G' => ∃ x y z u v : Nat, (G x = none ∧ G y = none ∧ G z = none ∧ G u = none ∧ G v = none) ∧ [a, x, y, z, u, v].Nodup ∧ G' = tG D (alf a x y z u v) tw0 zr 0 zr zr zr 0 G) := by
  refine gm_start (own := "EnergyDiscsModel") (lv := [some (.ref a)]) (by decide +kernel) rfl (Nat.le_of_ble_eq_true rfl) rfl (fun p_ e_ s_ m_ args_ below_ meth_ c_ hc hnm => ?_)
  refine gw_aload_n (q := 1) hc dX2_init_0 rfl rfl xg_0 ?_
  refine gw_objInit (q := 4) hc dX2_init_1 rfl q1246 (Nat.le_of_ble_eq_true rfl) (Nat.le_of_ble_eq_true rfl) ?_
  refine gw_aload_n (q := 5) hc dX2_init_4 rfl rfl xg_0 ?_
  refine gw_sipush (q := 8) hc dX2_init_5 rfl (by decide) ?_
  refine gw_newl (q := 10) (n := 276) hc dX2_init_8 rfl q1274 (by omega) (bc' := 4) (bs' := 1186) (Nat.le_of_ble_eq_true rfl) (Nat.le_of_ble_eq_true rfl) (fun x hnx hbx => ?_)
  refine gw_putF (q := 13) hc dX2_init_10 rfl cE_MO 0 (by decide) q1252 (fun _ h => h) rfl hnm rfl (gup_k hG hnx) ⟨rfl, rfl⟩ rfl (Nat.le_of_ble_eq_true rfl) ?_
  refine gw_aload_n (q := 14) hc dX2_init_13 rfl rfl xg_0 ?_
  refine gw_sipush (q := 17) hc dX2_init_14 rfl (by decide) ?_
  refine gw_newl (q := 19) (n := 828) hc dX2_init_17 rfl q1274 (by omega) (bc' := 3) (bs' := 358) (Nat.le_of_ble_eq_true rfl) (Nat.le_of_ble_eq_true rfl) (fun y hny hby => ?_)
  refine gw_putF (q := 22) hc dX2_init_19 rfl cE_MO 1 (by decide) q1253 (fun _ h => h) rfl hnm rfl (gup_k gup_s hny) ⟨rfl, rfl⟩ rfl (Nat.le_of_ble_eq_true rfl) ?_
  refine gw_G (gup_ac (none_gup hny).1) ?_
  refine gw_aload_n (q := 23) hc dX2_init_22 rfl rfl xg_0 ?_
  refine gw_sipush (q := 26) hc dX2_init_23 rfl (by decide) ?_
  refine gw_newl (q := 28) (n := 276) hc dX2_init_26 rfl q1274 (by omega) (bc' := 2) (bs' := 82) (Nat.le_of_ble_eq_true rfl) (Nat.le_of_ble_eq_true rfl) (fun z hnz hbz => ?_)
  refine gw_putF (q := 31) hc dX2_init_28 rfl cE_MO 3 (by decide) q1255 (fun _ h => h) rfl hnm rfl (gup_k gup_s hnz) ⟨rfl, rfl⟩ rfl (Nat.le_of_ble_eq_true rfl) ?_
  refine gw_G (gup_ac (none_gup hnz).1) ?_
  refine gw_aload_n (q := 32) hc dX2_init_31 rfl rfl xg_0 ?_
  refine gw_iconst (q := 33) hc dX2_init_32 rfl ?_
  refine gw_newz (q := 35) (n := 2) hc dX2_init_33 rfl q1275 (by omega) (bc' := 1) (bs' := 80) (Nat.le_of_ble_eq_true rfl) (Nat.le_of_ble_eq_true rfl) (fun u hnu hbu => ?_)
  refine gw_putF (q := 38) hc dX2_init_35 rfl cE_MO 4 (by decide) q1256 (fun _ h => h) rfl hnm rfl (gup_k gup_s hnu) ⟨rfl, rfl⟩ rfl (Nat.le_of_ble_eq_true rfl) ?_
  refine gw_G (gup_ac (none_gup hnu).1) ?_
  refine gw_aload_n (q := 39) hc dX2_init_38 rfl rfl xg_0 ?_
  refine gw_bipush (q := 41) hc dX2_init_39 rfl (by decide) ?_
  refine gw_newi (q := 43) (n := 80) hc dX2_init_41 rfl q141 (by omega) (bc' := 0) (bs' := 0) (Nat.le_of_ble_eq_true rfl) (Nat.le_of_ble_eq_true rfl) (fun v hnv hbv => ?_)
  refine gw_putF (q := 46) hc dX2_init_43 rfl cE_MO 5 (by decide) q1257 (fun _ h => h) rfl hnm rfl (gup_k gup_s hnv) ⟨rfl, rfl⟩ rfl (Nat.le_of_ble_eq_true rfl) ?_
  refine gw_G (gup_ac (none_gup hnv).1) ?_
  have hax : x ≠ a := Ne.symm (ne_none hG hnx)
  have ny := none_gup hny
  have nz := none_gup hnz
  have nu := none_gup hnu
  have nv := none_gup hnv
  have ny2 := none_gup ny.2
  have nz2 := none_gup nz.2
  have nu2 := none_gup nu.2
  have nv2 := none_gup nv.2
  have nz3 := none_gup nz2.2
  have nu3 := none_gup nu2.2
  have nv3 := none_gup nv2.2
  have nu4 := none_gup nu3.2
  have nv4 := none_gup nv3.2
  have nv5 := none_gup nv4.2
  have hnd : [a, x, y, z, u, v].Nodup := by
      simp only [List.nodup_cons, List.mem_cons, List.not_mem_nil, or_false, not_or, List.nodup_nil, and_true, not_false_eq_true]
      exact ⟨⟨Ne.symm hax, Ne.symm ny.1, Ne.symm nz.1, Ne.symm nu.1, Ne.symm nv.1⟩, ⟨Ne.symm ny2.1, Ne.symm nz3.1, Ne.symm nu4.1, Ne.symm nv5.1⟩, ⟨Ne.symm nz2.1, Ne.symm nu3.1, Ne.symm nv4.1⟩, ⟨Ne.symm nu2.1, Ne.symm nv3.1⟩, Ne.symm nv2.1⟩
  obtain ⟨G5, hG5⟩ : ∃ G5, G5 = gup (gup (gup (gup (gup (gup G x (jA D 276 zr)) y (jA D 828 zr)) z (jA D 276 zr)) u (zA D 2 zr)) v (iA D 80 zr)) a (oE 2 [.ref x, .ref y, .int (iI 0), .ref z, .ref u, .ref v, .int (iI 0)]) := ⟨_, rfl⟩
  refine gw_G (show _ = G5 from hG5.symm) ?_
  have hme5 : G5 a = some (oE 2 [.ref x, .ref y, .int (iI 0), .ref z, .ref u, .ref v, .int (iI 0)]) := by rw [hG5]; exact gup_s
  have hx5 : G5 x = some (jA D 276 zr) := by rw [hG5, gup_n hax, gup_n (Ne.symm nv5.1), gup_n (Ne.symm nu4.1), gup_n (Ne.symm nz3.1), gup_n (Ne.symm ny2.1)]; exact gup_s
  have hme6 : ∀ e' : va_E, gup G5 x e' a = some (oE 2 [.ref x, .ref y, .int (iI 0), .ref z, .ref u, .ref v, .int (iI 0)]) := fun e' => by rw [gup_n (Ne.symm hax)]; exact hme5
  refine gw_aload_n (q := 47) hc dX2_init_46 rfl rfl xg_0 ?_
  refine gw_get (q := 50) hc dX2_init_47 rfl cE_MO 0 (by decide) q1252 (fun _ h => h) hme5 rfl ?_
  refine gw_iconst (q := 51) hc dX2_init_50 rfl ?_
  refine gw_ldc2 (q := 54) hc dX2_init_51 rfl (v := 15) q1247 (by decide) ?_
  refine gw_last (q := 55) hc dX2_init_54 rfl hx5 (by omega) (by omega) ?_
  refine gw_aload_n (q := 56) hc dX2_init_55 rfl rfl xg_0 ?_
  refine gw_get (q := 59) hc dX2_init_56 rfl cE_MO 0 (by decide) q1252 (fun _ h => h) (hme6 _) rfl ?_
  refine gw_iconst (q := 60) hc dX2_init_59 rfl ?_
  refine gw_ldc2 (q := 63) hc dX2_init_60 rfl (v := 2) q1248 (by decide) ?_
  refine gw_last (q := 64) hc dX2_init_63 rfl gup_s (by omega) (by omega) ?_
  refine gw_G gup_gup ?_
  refine gw_aload_n (q := 65) hc dX2_init_64 rfl rfl xg_0 ?_
  refine gw_get (q := 68) hc dX2_init_65 rfl cE_MO 0 (by decide) q1252 (fun _ h => h) (hme6 _) rfl ?_
  refine gw_iconst (q := 69) hc dX2_init_68 rfl ?_
  refine gw_lconst (q := 70) hc dX2_init_69 rfl (v := 1) rfl ?_
  refine gw_last (q := 71) hc dX2_init_70 rfl gup_s (by omega) (by omega) ?_
  refine gw_G gup_gup ?_
  refine gw_aload_n (q := 72) hc dX2_init_71 rfl rfl xg_0 ?_
  refine gw_get (q := 75) hc dX2_init_72 rfl cE_MO 0 (by decide) q1252 (fun _ h => h) (hme6 _) rfl ?_
  refine gw_iconst (q := 76) hc dX2_init_75 rfl ?_
  refine gw_ldc2 (q := 79) hc dX2_init_76 rfl (v := 1000) q1249 (by decide) ?_
  refine gw_last (q := 80) hc dX2_init_79 rfl gup_s (by omega) (by omega) ?_
  refine gw_G gup_gup ?_
  refine gw_aload_n (q := 81) hc dX2_init_80 rfl rfl xg_0 ?_
  refine gw_get (q := 84) hc dX2_init_81 rfl cE_MO 0 (by decide) q1252 (fun _ h => h) (hme6 _) rfl ?_
  refine gw_iconst (q := 85) hc dX2_init_84 rfl ?_
  refine gw_ldc2 (q := 88) hc dX2_init_85 rfl (v := 9) q1250 (by decide) ?_
  refine gw_last (q := 89) hc dX2_init_88 rfl gup_s (by omega) (by omega) ?_
  refine gw_G gup_gup ?_
  refine gw_aload_n (q := 90) hc dX2_init_89 rfl rfl xg_0 ?_
  refine gw_get (q := 93) hc dX2_init_90 rfl cE_MO 0 (by decide) q1252 (fun _ h => h) (hme6 _) rfl ?_
  refine gw_iconst (q := 94) hc dX2_init_93 rfl ?_
  refine gw_ldc2 (q := 97) hc dX2_init_94 rfl (v := 5) q1251 (by decide) ?_
  refine gw_last (q := 98) hc dX2_init_97 rfl gup_s (by omega) (by omega) ?_
  refine gw_G gup_gup ?_
  exact gw_vret hc dX2_init_98 ⟨rfl, ⟨x, y, z, u, v, ⟨hnx, ny2.2, nz3.2, nu4.2, nv5.2⟩, hnd, by rw [hG5]; exact tw_new hnd⟩⟩

theorem mw_J4_init : mI yJ4_init cJ4_init 1 0 := ⟨⟨rfl, by decide +kernel, by decide +kernel, by decide +kernel⟩, q169, q79, q170⟩
set_option maxHeartbeats 4000000 in
theorem m_X0_init {l : Launch} {D : va_G} {X : Nat → Nat} {b0 : Nat} {tg : Nat → Nat} {a : Nat} {G : gM} (hG : G a = some (oE 0 [.null, .null, .null, .null])) (hta : tg a = 99500) : gMet l D X b0 yX0_init cX0_init 1 none (rmE 5 8 42) [.ref a] G (pV fun G' => ∃ tg' : Nat → Nat, frE tg tg' G G' ∧ ∀ P L V Pd : Int → Int, V 0 = 0 → V 1 = 0 → edR D X tg' a 1 row0 P 0 L V Pd 0 G') := by
  refine gm_start (own := "EnergyDiscs") (lv := [some (.ref a)]) (by decide +kernel) rfl (Nat.le_of_ble_eq_true rfl) rfl (fun p_ e_ s_ m_ args_ below_ meth_ c_ hc hnm => ?_)
  refine gw_aload_n (q := 1) hc dX0_init_0 rfl rfl xg_0 ?_
  refine gw_objInit (q := 4) hc dX0_init_1 rfl q103 (Nat.le_of_ble_eq_true rfl) (Nat.le_of_ble_eq_true rfl) ?_
  refine gw_aload_n (q := 5) hc dX0_init_4 rfl rfl xg_0 ?_
  refine gw_new (q := 8) (fs := [.null, .null, .null, .int (iI 0), .int (iI 0)]) hc dX0_init_5 rfl cE_HO q106 q107 q74 (fun j hj => by rcases (by omega : j = 0 ∨ j = 1 ∨ j = 2 ∨ j = 3 ∨ j = 4) with rfl | rfl | rfl | rfl | rfl <;> rfl) (bc' := 7) (bs' := 37) (Nat.le_of_ble_eq_true rfl) (Nat.le_of_ble_eq_true rfl) (fun hs hnhs hbhs => ?_)
  refine gw_dup (q := 9) hc dX0_init_8 rfl rfl ?_
  refine gw_callIN (q := 12) (bc' := 4) (bs' := 25) (As := []) hc dX0_init_9 rfl q108 mw_X1_init rfl rfl (m_X1_init gup_s) ⟨Nat.le_of_ble_eq_true rfl, Nat.le_of_ble_eq_true rfl⟩ (Nat.le_of_ble_eq_true rfl) (Nat.le_of_ble_eq_true rfl) (Nat.le_of_ble_eq_true rfl) (goV fun G9 h9 => ?_)
  obtain ⟨x, y, z, g, ⟨hx, hy, hz⟩, hd, hg, hG9⟩ := h9
  obtain ⟨tg1, ht1, hH1⟩ := hs_new (tg := tg) (hid := 0) (W := zr) hnhs hx hy hz hd hg hG9
  have hme9 := ht1.2.1 _ _ hG (by omega) (by omega)
  have hta9 := ht1.1 a (nn_s hG) (by omega)
  refine gw_put (q := 15) hc dX0_init_12 rfl cE_ED 0 (by decide) q198 (fun _ h => h) rfl hme9 ⟨rfl, rfl⟩ rfl (Nat.le_of_ble_eq_true rfl) ?_
  refine gw_nm (fun G12 e12 => ?_)
  have hme12 := (congrFun e12 a).trans gup_s
  refine gw_aload_n (q := 16) hc dX0_init_15 rfl rfl xg_0 ?_
  refine gw_new (q := 19) (fs := [.int (iI 0), .null, .int (iI 0)]) hc dX0_init_16 rfl cE_AL q163 q113 q77 (fun j hj => by rcases (by omega : j = 0 ∨ j = 1 ∨ j = 2) with rfl | rfl | rfl <;> rfl) (bc' := 3) (bs' := 22) (Nat.le_of_ble_eq_true rfl) (Nat.le_of_ble_eq_true rfl) (fun pl hnpl hbpl => ?_)
  refine gw_dup (q := 20) hc dX0_init_19 rfl rfl ?_
  refine gw_callI (q := 23) (bc' := 3) (bs' := 22) (As := []) hc dX0_init_20 rfl q164 mw_J2_init rfl rfl (m_J2_init gup_s) ⟨Nat.le_of_ble_eq_true rfl, Nat.le_of_ble_eq_true rfl⟩ (Nat.le_of_ble_eq_true rfl) (Nat.le_of_ble_eq_true rfl) (Nat.le_of_ble_eq_true rfl) (goV fun G20 h20 => ?_)
  subst h20
  refine gw_G gup_gup ?_
  refine gw_putF (q := 26) hc dX0_init_23 rfl cE_ED 1 (by decide) q199 (fun _ h => h) rfl hnm rfl (gup_k hme12 hnpl) ⟨rfl, rfl⟩ rfl (Nat.le_of_ble_eq_true rfl) ?_
  refine gw_nm (fun G23 e23 => ?_)
  have hme23 := (congrFun e23 a).trans gup_s
  have npl := ne_none hme12 hnpl
  have hpl23 := (congrFun e23 pl).trans ((gup_n (Ne.symm npl)).trans gup_s)
  refine gw_aload_n (q := 27) hc dX0_init_26 rfl rfl xg_0 ?_
  refine gw_iconst (q := 28) hc dX0_init_27 rfl ?_
  refine gw_newh (q := 31) (n := 2) hc dX0_init_28 rfl q106 q165 (by omega) (bc' := 2) (bs' := 20) (Nat.le_of_ble_eq_true rfl) (Nat.le_of_ble_eq_true rfl) (fun sv hnsv hbsv => ?_)
  refine gw_putF (q := 34) hc dX0_init_31 rfl cE_ED 2 (by decide) q200 (fun _ h => h) rfl hnm rfl (gup_k hme23 hnsv) ⟨rfl, rfl⟩ rfl (Nat.le_of_ble_eq_true rfl) ?_
  refine gw_nm (fun G31 e31 => ?_)
  have hme31 := (congrFun e31 a).trans gup_s
  have nsv := ne_none hme23 hnsv
  have npv := ne_none hpl23 hnsv
  have hsv31 := (congrFun e31 sv).trans ((gup_n (Ne.symm nsv)).trans gup_s)
  have hpl31 := (congrFun e31 pl).trans ((gup_n (Ne.symm npl)).trans ((gup_n npv).trans hpl23))
  refine gw_aload_n (q := 35) hc dX0_init_34 rfl rfl xg_0 ?_
  refine gw_new (q := 38) (fs := [.null, .int (iI 0), .int (iI 0), .int (iI 0)]) hc dX0_init_35 rfl cE_SB q166 q167 q79 (fun j hj => by rcases (by omega : j = 0 ∨ j = 1 ∨ j = 2 ∨ j = 3) with rfl | rfl | rfl | rfl <;> rfl) (bc' := 1) (bs' := 16) (Nat.le_of_ble_eq_true rfl) (Nat.le_of_ble_eq_true rfl) (fun pd hnpd hbpd => ?_)
  refine gw_dup (q := 39) hc dX0_init_38 rfl rfl ?_
  refine gw_callI (q := 42) (bc' := 0) (bs' := 0) (As := []) hc dX0_init_39 rfl q168 mw_J4_init rfl rfl (m_J4_init gup_s) ⟨Nat.le_of_ble_eq_true rfl, Nat.le_of_ble_eq_true rfl⟩ (Nat.le_of_ble_eq_true rfl) (Nat.le_of_ble_eq_true rfl) (Nat.le_of_ble_eq_true rfl) (goV fun G39 h39 => ?_)
  obtain ⟨v, hnv, hG39⟩ := h39
  obtain ⟨nvd, hnv1⟩ := none_gup hnv
  have npd := ne_none hme31 hnpd
  have npd2 := ne_none hpl31 hnpd
  have npd3 := ne_none hsv31 hnpd
  have nva := ne_none hme31 hnv1
  have nva2 := ne_none hpl31 hnv1
  have nva3 := ne_none hsv31 hnv1
  have hme39 := (congrFun hG39 a).trans ((gup_n npd).trans ((gup_n nva).trans ((gup_n npd).trans hme31)))
  refine gw_putF (q := 45) hc dX0_init_42 rfl cE_ED 3 (by decide) q202 (fun _ h => h) rfl hnm rfl hme39 ⟨rfl, rfl⟩ rfl (Nat.le_of_ble_eq_true rfl) ?_
  refine gw_nm (fun G42 e42 => ?_)
  have hme42 := (congrFun e42 a).trans gup_s
  have hpl42 := (congrFun e42 pl).trans ((gup_n (Ne.symm npl)).trans ((congrFun hG39 pl).trans ((gup_n npd2).trans ((gup_n nva2).trans ((gup_n npd2).trans hpl31)))))
  have hsv42 := (congrFun e42 sv).trans ((gup_n (Ne.symm nsv)).trans ((congrFun hG39 sv).trans ((gup_n npd3).trans ((gup_n nva3).trans ((gup_n npd3).trans hsv31)))))
  have hpd42 := (congrFun e42 pd).trans ((gup_n (Ne.symm npd)).trans ((congrFun hG39 pd).trans gup_s))
  have hv42 := (congrFun e42 v).trans ((gup_n (Ne.symm nva)).trans ((congrFun hG39 v).trans ((gup_n nvd).trans gup_s)))
  have hkeep : ∀ q f, G9 q = some f → q ≠ a → G42 q = some f ∧ q ≠ pl ∧ q ≠ sv ∧ q ≠ pd ∧ q ≠ v := fun q f f9 hqa => by
      have f12 := (congrFun e12 q).trans ((gup_n hqa).trans f9)
      have q1 := ne_none f12 hnpl
      have f23 := (congrFun e23 q).trans ((gup_n hqa).trans ((gup_n q1).trans f12))
      have q2 := ne_none f23 hnsv
      have f31 := (congrFun e31 q).trans ((gup_n hqa).trans ((gup_n q2).trans f23))
      have q3 := ne_none f31 hnpd
      have q4 := ne_none f31 hnv1
      exact ⟨(congrFun e42 q).trans ((gup_n hqa).trans ((congrFun hG39 q).trans ((gup_n q3).trans ((gup_n q4).trans ((gup_n q3).trans f31))))), q1, q2, q3, q4⟩
  obtain ⟨tgF, eF⟩ : ∃ tgF : Nat → Nat, tgF = fun q => if q = pl then 99501 else if q = sv then 99503 else if q = pd then 99600 else if q = v then 99601 else tg1 q := ⟨_, rfl⟩
  have tgk : ∀ q f, G9 q = some f → q ≠ a → tgF q = tg1 q := fun q f f9 hqa => by
      obtain ⟨-, q1, q2, q3, q4⟩ := hkeep q f f9 hqa
      rw [eF]
      show (if q = pl then 99501 else if q = sv then 99503 else if q = pd then 99600 else if q = v then 99601 else tg1 q) = tg1 q
      rw [if_neg q1, if_neg q2, if_neg q3, if_neg q4]
  have ta : tgF a = 99500 := by
      rw [eF]
      show (if a = pl then 99501 else if a = sv then 99503 else if a = pd then 99600 else if a = v then 99601 else tg1 a) = 99500
      rw [if_neg npl, if_neg nsv, if_neg npd, if_neg nva, hta9, hta]
  have tpl : tgF pl = 99501 := by rw [eF]; exact if_pos rfl
  have tsv : tgF sv = 99503 := by
      rw [eF]
      show (if sv = pl then 99501 else if sv = sv then 99503 else _) = _
      rw [if_neg (Ne.symm npv), if_pos rfl]
  have tpd : tgF pd = 99600 := by
      rw [eF]
      show (if pd = pl then 99501 else if pd = sv then 99503 else if pd = pd then 99600 else _) = _
      rw [if_neg (Ne.symm npd2), if_neg (Ne.symm npd3), if_pos rfl]
  have tv : tgF v = 99601 := by
      rw [eF]
      show (if v = pl then 99501 else if v = sv then 99503 else if v = pd then 99600 else if v = v then 99601 else _) = _
      rw [if_neg (Ne.symm nva2), if_neg (Ne.symm nva3), if_neg nvd, if_pos rfl]
  have hqa : ∀ q, tg1 q / 100 ≠ 995 → q ≠ a := fun q hq z => by rw [z, hta9, hta] at hq; omega
  have hH42 : hsR D X tgF 0 (A_ho hs x y z) row0 zr G42 := hs_mv hH1 (fun q f he hq => ⟨(hkeep q f he (hqa q (by omega))).1, tgk q f he (hqa q (by omega))⟩)
  exact gw_vret hc dX0_init_45 ⟨rfl, ⟨tgF, fun q f hf b1 b2 => by
      have f9 := ht1.2.1 q f hf (by omega) (by omega)
      have t9 := ht1.1 q (nn_s hf) (by omega)
      have hq := hqa q (by omega)
      exact ⟨(hkeep q f f9 hq).1, (tgk q f f9 hq).trans t9⟩, fun P L V Pd hV0 hV1 => ⟨pl, sv, pd, fun _ => 0, fun _ => A_ho hs x y z, ⟨hme42, ta, tpl, tsv⟩, fun i hi => by
        have : i = -1 := by unfold edU at hi; omega
        subst this
        exact ⟨Nat.lt_succ_self 0, zr, by unfold edW; rw [if_pos rfl]; exact hH42⟩, fun i j hi hj _ => by unfold edU at hi hj; omega, ⟨by omega, by omega⟩, ⟨0, X 0, ⟨by omega, by omega⟩, hpl42, ⟨by omega, by omega⟩, Or.inl ⟨rfl, rfl⟩⟩, ⟨_, hsv42, fun k h0 h1 => by rw [if_neg (by rcases (by omega : k = 0 ∨ k = 1) with z | z <;> rw [z] <;> omega)]⟩,
        ⟨v, 0, 16, _, hpd42, hv42, ⟨tpd, tv⟩, ⟨by omega, by omega, by omega, by omega⟩, Or.inl rfl, fun i h0 h1 => ⟨by show (-128 : Int) ≤ 0; omega, by show (0 : Int) < 128; omega⟩, fun i h0 h1 => by omega⟩⟩⟩⟩

