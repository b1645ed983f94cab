/-! ===== THE CLASS'S STATE ===== -/
set_option maxRecDepth 100000
/-- the places of houses: -1 now, 0.. the past, 100 and 101 the saved ones -/
def edU (kn : Int) (V : Int → Int) (i : Int) : Prop := i = -1 ∨ (0 ≤ i ∧ i < kn) ∨ (i = 100 ∧ V 0 = 1) ∨ (i = 101 ∧ V 1 = 1)
/-- a place's row -/
def edW (S P L : Int → Int) (i : Int) : Int → Int := if i = -1 then S else if i < 100 then (fun j => P (138 * i + j)) else fun j => L (138 * (i - 100) + j)
abbrev edO (a pl sv pd : Nat) : va_E := oE 0 [.ref a, .ref pl, .ref sv, .ref pd]
def edC (D : va_G) (X tg : Nat → Nat) (e nid pl sv pd : Nat) (h : Int → Nat) (A : Int → Nat → Nat) (S P : Int → Int) (kn : Int) (L V Pd : Int → Int) (ln : Int) (G : gM) : Prop :=
  (G e = some (edO (A (-1) 0) pl sv pd) ∧ tg e = 99500 ∧ tg pl = 99501 ∧ tg sv = 99503) ∧
  (∀ i, edU kn V i → h i < nid ∧ ∃ W : Int → Int, hsR D X tg (h i) (A i) (edW S P L i) W G) ∧
  (∀ i j, edU kn V i → edU kn V j → h i = h j → i = j) ∧ (0 ≤ kn ∧ kn ≤ 6) ∧
  alR D X tg 99502 G pl kn (fun i => A i 0) ∧
  (∃ f : Int → Option Nat, G sv = some (hA D 2 f) ∧ ∀ k, 0 ≤ k → k < 2 → f k = if V k = 1 then some (A (100 + k) 0) else none) ∧
  sbR D tg 996 pd ln Pd G
/-- the class's object e has the row S, the past P, the saved rows L, the pad Pd -/
def edR (D : va_G) (X tg : Nat → Nat) (e nid : Nat) (S P : Int → Int) (kn : Int) (L V Pd : Int → Int) (ln : Int) (G : gM) : Prop :=
  ∃ (pl sv pd : Nat) (h : Int → Nat) (A : Int → Nat → Nat), edC D X tg e nid pl sv pd h A S P kn L V Pd ln G
/-- what is not the class's stays -/
def frE (tg tg' : Nat → Nat) (G G' : gM) : Prop := ∀ q f, G q = some f → 990 ≤ tg q / 100 → tg q / 100 ≤ 994 → G' q = some f ∧ tg' q = tg q
def rmK (kn : Int) : Int := if kn = 6 then 6 else kn + 1
def rmF (S P : Int → Int) (kn : Int) : Int → Int := fun i => if 138 * (rmK kn - 1) ≤ i ∧ i < 138 * rmK kn then S (i - 138 * (rmK kn - 1)) else if kn = 6 then P (138 + i) else P i
section ED
variable {D : va_G} {X tg tg' tg2 : Nat → Nat} {e nid hid pl sv pd : Nat} {h : Int → Nat} {A : Int → Nat → Nat} {S P L V Pd : Int → Int} {kn ln : Int} {G G' G2 : gM}
theorem frE_tr (a : frE tg tg' G G') (b : frE tg' tg2 G' G2) : frE tg tg2 G G2 := fun q f hf h1 h2 => by
  obtain ⟨c1, c2⟩ := a q f hf h1 h2
  obtain ⟨d1, d2⟩ := b q f c1 (by rw [c2]; exact h1) (by rw [c2]; exact h2)
  exact ⟨d1, by rw [d2, c2]⟩
theorem frE_rf : frE tg tg G G := fun _ _ h _ _ => ⟨h, rfl⟩
theorem nn_s {q : Nat} {f : va_E} (h : G q = some f) : G q ≠ none := fun z => by rw [z] at h; cases h
theorem frE_of (ht : tgR tg tg' hid G G') (hh : hid < 990 ∨ 994 < hid) : frE tg tg' G G' := fun q f hf h1 h2 => ⟨ht.2.1 q f hf (by omega) (by omega), ht.1 q (nn_s hf) (by omega)⟩
theorem ed_H (hC : edC D X tg e nid pl sv pd h A S P kn L V Pd ln G) : h (-1) < nid ∧ ∃ W : Int → Int, hsR D X tg (h (-1)) (A (-1)) S W G := hC.2.1 (-1) (Or.inl rfl)
/-- the same, less asked -/
def tgW (tg tg' : Nat → Nat) (hid : Nat) (G G' : gM) : Prop := (∀ q, G q ≠ none → tg q / 100 ≠ 999 → tg' q = tg q) ∧ ∀ q f, G q = some f → tg q / 100 ≠ hid → tg q / 100 ≠ 999 → G' q = some f
theorem tgW_of (ht : tgR tg tg' hid G G') : tgW tg tg' hid G G' := ⟨ht.1, ht.2.1⟩
theorem tgW_H (hf : frH tg hid G G') : tgW tg tg hid G G' := ⟨fun _ _ _ => rfl, fun q f he h1 _ => by rw [hf q h1]; exact he⟩
theorem frE_w (ht : tgW tg tg' hid G G') (hh : hid < 990 ∨ 994 < hid) : frE tg tg' G G' := fun q f hf h1 h2 => ⟨ht.2 q f hf (by omega) (by omega), ht.1 q (nn_s hf) (by omega)⟩
theorem hs_tw {h2 : Nat} {B : Nat → Nat} {T W : Int → Int} (hs : hsR D X tg h2 B T W G) (ht : tgW tg tg' hid G G') (hne : h2 ≠ hid) (h9 : h2 ≠ 999) : hsR D X tg' h2 B T W G' :=
  hs_mv hs (fun q f he hq => ⟨ht.2 q f he (by rw [hq]; exact hne) (by rw [hq]; exact h9), ht.1 q (nn_s he) (by rw [hq]; exact h9)⟩)
theorem sb_tw {pid a : Nat} {n : Int} {F : Int → Int} (hs : sbR D tg pid a n F G) (ht : tgW tg tg' hid G G') (hne : pid ≠ hid) (h9 : pid ≠ 999) : sbR D tg' pid a n F G' := by
  obtain ⟨vl, mb, cap, f, h1, h2, h3, h4⟩ := hs
  exact ⟨vl, mb, cap, f, ht.2 _ _ h1 (by omega) (by omega), ht.2 _ _ h2 (by omega) (by omega), ⟨by rw [ht.1 _ (nn_s h1) (by omega)]; exact h3.1, by rw [ht.1 _ (nn_s h2) (by omega)]; exact h3.2⟩, h4⟩
theorem al_tw {t a : Nat} {n : Int} {el : Int → Nat} (ha : alR D X tg t G a n el) (ht : tgW tg tg' hid G G') (h1 : tg a / 100 = 995) (h2 : t / 100 = 995) (h5 : hid ≠ 995) : alR D X tg' t G' a n el :=
  alR_mv ha (fun f hf => ht.2 _ _ hf (by omega) (by omega)) (fun q f hf hq => ⟨ht.2 _ _ hf (by omega) (by omega), ht.1 _ (nn_s hf) (by omega)⟩)
theorem ed_ow (hC : edC D X tg e nid pl sv pd h A S P kn L V Pd ln G) (ht : tgW tg tg' hid G G') (h5 : hid ≠ 995) :
    (G' e = some (edO (A (-1) 0) pl sv pd) ∧ tg' e = 99500 ∧ tg' pl = 99501 ∧ tg' sv = 99503) ∧ alR D X tg' 99502 G' pl kn (fun i => A i 0) ∧ ∃ f : Int → Option Nat, G' sv = some (hA D 2 f) ∧ ∀ k, 0 ≤ k → k < 2 → f k = if V k = 1 then some (A (100 + k) 0) else none := by
  obtain ⟨⟨c1, c2, c3, c4⟩, -, -, -, c5, ⟨f, c6, c7⟩, -⟩ := hC
  obtain ⟨_, _, -, c8, -⟩ := id c5
  exact ⟨⟨ht.2 _ _ c1 (by omega) (by omega), by rw [ht.1 _ (nn_s c1) (by omega)]; exact c2, by rw [ht.1 _ (nn_s c8) (by omega)]; exact c3, by rw [ht.1 _ (nn_s c6) (by omega)]; exact c4⟩, al_tw c5 ht (by omega) (by omega) h5, f, ht.2 _ _ c6 (by omega) (by omega), c7⟩
theorem sb_tg {pid a : Nat} {n : Int} {F : Int → Int} (hs : sbR D tg pid a n F G) (ht : tgR tg tg' hid G G') (hne : pid ≠ hid) (h9 : pid ≠ 999) : sbR D tg' pid a n F G' := by
  obtain ⟨vl, mb, cap, f, h1, h2, h3, h4⟩ := hs
  exact ⟨vl, mb, cap, f, ht.2.1 _ _ h1 (by omega) (by omega), ht.2.1 _ _ h2 (by omega) (by omega), ⟨by rw [ht.1 _ (nn_s h1) (by omega)]; exact h3.1, by rw [ht.1 _ (nn_s h2) (by omega)]; exact h3.2⟩, h4⟩
theorem al_tg {t a : Nat} {n : Int} {el : Int → Nat} (ha : alR D X tg t G a n el) (ht : tgR tg tg' hid G G') (h1 : tg a / 100 = 995) (h2 : t / 100 = 995) (h5 : hid ≠ 995) : alR D X tg' t G' a n el :=
  alR_mv ha (fun f hf => ht.2.1 _ _ hf (by omega) (by omega)) (fun q f hf hq => ⟨ht.2.1 _ _ hf (by omega) (by omega), ht.1 _ (nn_s hf) (by omega)⟩)
theorem ed_o (hC : edC D X tg e nid pl sv pd h A S P kn L V Pd ln G) (ht : tgR tg tg' hid G G') (h5 : hid ≠ 995) :
    (G' e = some (edO (A (-1) 0) pl sv pd) ∧ tg' e = 99500 ∧ tg' pl = 99501 ∧ tg' sv = 99503) ∧ alR D X tg' 99502 G' pl kn (fun i => A i 0) ∧ ∃ f : Int → Option Nat, G' sv = some (hA D 2 f) ∧ ∀ k, 0 ≤ k → k < 2 → f k = if V k = 1 then some (A (100 + k) 0) else none := by
  obtain ⟨⟨c1, c2, c3, c4⟩, -, -, -, c5, ⟨f, c6, c7⟩, -⟩ := hC
  obtain ⟨_, _, -, c8, -⟩ := id c5
  exact ⟨⟨ht.2.1 _ _ c1 (by omega) (by omega), by rw [ht.1 _ (nn_s c1) (by omega)]; exact c2, by rw [ht.1 _ (nn_s c8) (by omega)]; exact c3, by rw [ht.1 _ (nn_s c6) (by omega)]; exact c4⟩, al_tg c5 ht (by omega) (by omega) h5, f, ht.2.1 _ _ c6 (by omega) (by omega), c7⟩
/-- the house now changes -/
theorem ed_nowW {A' : Nat → Nat} {S' W' : Int → Int} (hC : edC D X tg e nid pl sv pd h A S P kn L V Pd ln G) (ht : tgW tg tg' (h (-1)) G G') (hH : hsR D X tg' (h (-1)) A' S' W' G') (hA : A' 0 = A (-1) 0) (hn : nid ≤ 900) : edC D X tg' e nid pl sv pd h (fu A (-1) A') S' P kn L V Pd ln G' := by
  have hlt := (ed_H hC).1
  obtain ⟨o1, o2, f, o3, o4⟩ := ed_ow hC ht (by omega)
  refine ⟨by rw [fu_s, hA]; exact o1, fun i hi => ?_, hC.2.2.1, hC.2.2.2.1, alR_el o2 (fun i a b => by rw [fu_n (by omega)]), ⟨f, o3, fun k a b => by rw [fu_n (by omega)]; exact o4 k a b⟩, sb_tw hC.2.2.2.2.2.2 ht (by omega) (by omega)⟩
  obtain ⟨h1, W, h2⟩ := hC.2.1 i hi
  by_cases z : i = -1
  · subst z; rw [fu_s]; exact ⟨h1, W', hH⟩
  · have e1 : edW S' P L i = edW S P L i := by unfold edW; rw [if_neg z, if_neg z]
    rw [fu_n z, e1]
    exact ⟨h1, W, hs_tw h2 ht (fun y => z (hC.2.2.1 _ _ hi (Or.inl rfl) y)) (by omega)⟩
/-- the house now changes -/
theorem ed_now {A' : Nat → Nat} {S' W' : Int → Int} (hC : edC D X tg e nid pl sv pd h A S P kn L V Pd ln G) (ht : tgR tg tg' (h (-1)) G G') (hH : hsR D X tg' (h (-1)) A' S' W' G') (hA : A' 0 = A (-1) 0) (hn : nid ≤ 900) : edC D X tg' e nid pl sv pd h (fu A (-1) A') S' P kn L V Pd ln G' := by
  have hlt := (ed_H hC).1
  obtain ⟨o1, o2, f, o3, o4⟩ := ed_o hC ht (by omega)
  refine ⟨by rw [fu_s, hA]; exact o1, fun i hi => ?_, hC.2.2.1, hC.2.2.2.1, alR_el o2 (fun i a b => by rw [fu_n (by omega)]), ⟨f, o3, fun k a b => by rw [fu_n (by omega)]; exact o4 k a b⟩, sb_tg hC.2.2.2.2.2.2 ht (by omega) (by omega)⟩
  obtain ⟨h1, W, h2⟩ := hC.2.1 i hi
  by_cases z : i = -1
  · subst z; rw [fu_s]; exact ⟨h1, W', hH⟩
  · have e1 : edW S' P L i = edW S P L i := by unfold edW; rw [if_neg z, if_neg z]
    rw [fu_n z, e1]
    exact ⟨h1, W, hs_tg h2 ht (fun y => z (hC.2.2.1 _ _ hi (Or.inl rfl) y)) (by omega)⟩
/-- the pad changes -/
theorem ed_pad {Pd' : Int → Int} {ln' : Int} (hC : edC D X tg e nid pl sv pd h A S P kn L V Pd ln G) (ht : tgR tg tg' 996 G G') (hs : sbR D tg' 996 pd ln' Pd' G') (hn : nid ≤ 900) : edC D X tg' e nid pl sv pd h A S P kn L V Pd' ln' G' := by
  obtain ⟨o1, o2, o3⟩ := ed_o hC ht (by omega)
  exact ⟨o1, fun i hi => by obtain ⟨h1, W, h2⟩ := hC.2.1 i hi; exact ⟨h1, W, hs_tg h2 ht (by omega) (by omega)⟩, hC.2.2.1, hC.2.2.2.1, o2, o3, hs⟩
/-- nothing of it changes -/
theorem ed_oth (hC : edC D X tg e nid pl sv pd h A S P kn L V Pd ln G) (ht : tgR tg tg' hid G G') (h1 : nid ≤ hid ∧ hid ≠ 995 ∧ hid ≠ 996) (hn : nid ≤ 900) : edC D X tg' e nid pl sv pd h A S P kn L V Pd ln G' := by
  obtain ⟨o1, o2, o3⟩ := ed_o hC ht (by omega)
  exact ⟨o1, fun i hi => by obtain ⟨h1, W, h2⟩ := hC.2.1 i hi; exact ⟨h1, W, hs_tg h2 ht (by omega) (by omega)⟩, hC.2.2.1, hC.2.2.2.1, o2, o3, sb_tg hC.2.2.2.2.2.2 ht (by omega) (by omega)⟩
/-- rows the same in what is seen of them -/
theorem ed_E {S' P' L' V' Pd' : Int → Int} (hC : edC D X tg e nid pl sv pd h A S P kn L V Pd ln G) (hV : ∀ k, 0 ≤ k → k < 2 → V' k = V k) (hS : ∀ j, 0 ≤ j → j < 138 → S' j = S j) (hP : ∀ j, 0 ≤ j → j < 138 * kn → P' j = P j) (hL : ∀ k j, 0 ≤ k → k < 2 → V k = 1 → 0 ≤ j → j < 138 → L' (138 * k + j) = L (138 * k + j)) (hPd : ∀ j, 0 ≤ j → j < ln → Pd' j = Pd j) : edC D X tg e nid pl sv pd h A S' P' kn L' V' Pd' ln G := by
  have hU : ∀ i, edU kn V' i → edU kn V i := fun i hi => by
    unfold edU at hi ⊢
    rw [hV 0 (by omega) (by omega), hV 1 (by omega) (by omega)] at hi
    exact hi
  obtain ⟨c1, c2, c3, c4, c5, ⟨f, c6, c7⟩, vl, mb, cap, g, s1, s2, s3, s4, s5, s6, s7⟩ := hC
  refine ⟨c1, fun i hi => ?_, fun i j hi hj => c3 i j (hU i hi) (hU j hj), c4, c5, ⟨f, c6, fun k a b => by rw [hV k a b]; exact c7 k a b⟩, vl, mb, cap, g, s1, s2, s3, s4, s5, s6, fun i a b => by rw [s7 i a b, hPd i a b]⟩
  obtain ⟨h1, W, h2⟩ := c2 i (hU i hi)
  refine ⟨h1, W, hs_row h2 (fun j a b _ => ?_)⟩
  unfold edW
  rcases hU i hi with rfl | hi | ⟨rfl, hv⟩ | ⟨rfl, hv⟩
  · rw [if_pos rfl, if_pos rfl]; exact hS j a b
  · rw [if_neg (by omega), if_pos (by omega), if_neg (by omega), if_pos (by omega)]; exact hP _ (by omega) (by omega)
  · rw [if_neg (by omega), if_neg (by omega), if_neg (by omega), if_neg (by omega)]; exact hL 0 j (by omega) (by omega) hv a b
  · rw [if_neg (by omega), if_neg (by omega), if_neg (by omega), if_neg (by omega)]; exact hL 1 j (by omega) (by omega) hv a b
/-- the past list appended to -/
theorem ed_add {B : Nat → Nat} {W P' : Int → Int} {mc : Int} {ar : Nat} (hC : edC D X tg e nid pl sv pd h A S P kn L V Pd ln G) (hk : kn < 6) (hB : hsR D X tg nid B S W G) (hc : G pl = some (alO mc ar kn)) (har : ar = X 0 ∨ tg ar = 99502) (hX0 : G (X 0) = none) (ha : adP D G pl ar (mc + 1) kn (fun i => A i 0) (B 0) G') (hn : nid < 900) (hP : ∀ i, 0 ≤ i → i < 138 * kn → P' i = P i) (hP2 : ∀ i, 0 ≤ i → i < 138 → P' (138 * kn + i) = S i) :
    ∃ tg' : Nat → Nat, tgR tg tg' 995 G G' ∧ edC D X tg' e (nid + 1) pl sv pd (fu h kn nid) (fu A kn B) S P' (kn + 1) L V Pd ln G' := by
  obtain ⟨⟨c1, c2, c3, c4⟩, c5, c6, c7, c8, ⟨f, c9, c10⟩, c11⟩ := id hC
  obtain ⟨ar', h3, hna, hfr, hnn, hal⟩ := alR_ad (X := X) ha (by omega) (fun q f hf z => by rw [z, hc] at hf; cases hf) (nn_s hc)
  have h3' : (G ar' ≠ none ∧ tg ar' = 99502) ∨ G ar' = none := by
    rcases h3 with ⟨rfl, f, hf⟩ | h3
    · rcases har with rfl | har
      · rw [hX0] at hf; cases hf
      · exact Or.inl ⟨nn_s hf, har⟩
    · exact Or.inr h3
  have hkp : ∀ q, G q ≠ none → (if q = ar' then 99502 else tg q) = tg q := fun q hq => by
    by_cases z : q = ar'
    · rw [if_pos z, z]
      rcases h3' with h | h
      · exact h.2.symm
      · rw [z, h] at hq; exact absurd rfl hq
    · rw [if_neg z]
  have ho : ∀ q f, G q = some f → tg q ≠ 99501 → tg q ≠ 99502 → G' q = some f := fun q f hf h1 h2 => by
    rw [hfr q (fun z => h1 (by rw [z]; exact c3)) (fun z => ?_)]
    · exact hf
    · rcases h3' with ⟨-, h4⟩ | h4
      · rw [z] at h2; exact h2 h4
      · rw [z, h4] at hf; cases hf
  have ht : tgR tg (fun q => if q = ar' then 99502 else tg q) 995 G G' := ⟨fun q hq _ => hkp q hq, fun q f hf h1 _ => ho q f hf (by omega) (by omega), fun q hq hq' => by
    left
    by_cases z : q = ar'
    · show (if q = ar' then 99502 else tg q) / 100 = 995
      rw [if_pos z]
    · exact absurd (by rw [hfr q (fun z => by rw [z, hc] at hq; cases hq) z]; exact hq) hq', fun q hq h9 => by
    right
    show (if q = ar' then 99502 else tg q) / 100 = 999
    rw [hkp q hq]; exact h9, hnn⟩
  refine ⟨_, ht, ⟨by rw [fu_n (by omega)]; exact ho _ _ c1 (by omega) (by omega), by show (if e = ar' then 99502 else tg e) = _; rw [hkp _ (nn_s c1)]; exact c2, by show (if pl = ar' then 99502 else tg pl) = _; rw [hkp _ (nn_s hc)]; exact c3, by show (if sv = ar' then 99502 else tg sv) = _; rw [hkp _ (nn_s c9)]; exact c4⟩, fun i hi => ?_, fun i j hi hj hij => ?_, by omega, alR_el (hal _ _ (if_pos rfl)) (fun i a b => ?_), ⟨f, ho _ _ c9 (by omega) (by omega), fun k a b => by rw [fu_n (by omega)]; exact c10 k a b⟩, sb_tg c11 ht (by omega) (by omega)⟩
  · by_cases z : i = kn
    · subst z
      rw [fu_s, fu_s]
      refine ⟨by omega, W, hs_tg (hs_row hB (fun j a b _ => ?_)) ht (by omega) (by omega)⟩
      unfold edW
      rw [if_neg (by omega), if_pos (by omega)]
      exact hP2 j a b
    · have hi' : edU kn V i := by unfold edU at hi ⊢; omega
      obtain ⟨h1, W2, h2⟩ := c5 i hi'
      rw [fu_n z, fu_n z]
      refine ⟨by omega, W2, hs_tg (hs_row h2 (fun j a b _ => ?_)) ht (by omega) (by omega)⟩
      unfold edW
      rcases hi' with rfl | hi | ⟨rfl, hv⟩ | ⟨rfl, hv⟩
      · rfl
      · rw [if_neg (by omega), if_pos (by omega), if_neg (by omega), if_pos (by omega)]; exact hP _ (by omega) (by omega)
      · rw [if_neg (by omega), if_neg (by omega), if_neg (by omega), if_neg (by omega)]
      · rw [if_neg (by omega), if_neg (by omega), if_neg (by omega), if_neg (by omega)]
  · have hd : ∀ i, edU (kn + 1) V i → i ≠ kn → edU kn V i := fun i hi z => by unfold edU at hi ⊢; omega
    by_cases z : i = kn
    · by_cases y : j = kn
      · omega
      · have := (c5 j (hd j hj y)).1
        rw [z, fu_s, fu_n y] at hij
        omega
    · by_cases y : j = kn
      · have := (c5 i (hd i hi z)).1
        rw [y, fu_s, fu_n z] at hij
        omega
      · rw [fu_n z, fu_n y] at hij
        exact c6 i j (hd i hi z) (hd j hj y) hij
  · by_cases z : i = kn
    · rw [z, fu_s, fu_s]
    · rw [fu_n z, fu_n z]
/-- the past list loses its first or last -/
theorem ed_cut {mc : Int} {ar cap : Nat} {f2 : Int → Option Nat} {el : Int → Nat} (hC : edC D X tg e nid pl sv pd h A S P kn L V Pd ln G) (hk : 0 < kn) (hc : G pl = some (alO mc ar kn)) (har : tg ar = 99502) (hcap : G ar ≠ none ∧ kn ≤ cap ∧ cap ≤ 1000 ∧ ar ≠ pl) (hf : elF f2 cap (kn - 1) el) (hG' : G' = gup (gup G ar (qA D cap f2)) pl (alO (mc + 1) ar (kn - 1))) :
    tgR tg tg 995 G G' ∧ (∀ q f, G q = some f → tg q ≠ 99501 → tg q ≠ 99502 → G' q = some f) ∧ alR D X tg 99502 G' pl (kn - 1) el := by
  have c3 := hC.1.2.2.1
  have c7 := hC.2.2.2.1
  have hmc : alO (mc + 1) ar (kn - 1) = alO (iI (mc + 1)).toInt ar (kn - 1) := by unfold alO; rw [← iI_of]
  subst hG'
  exact ⟨tgR_upH (tgR_upH tgR_rf (by omega) hcap.1) (by omega) (gup_nn (nn_s hc)), fun q f hf h1 h2 => by rw [gup_n (fun z => h1 (by rw [z]; exact c3)), gup_n (fun z => h2 (by rw [z]; exact har))]; exact hf, ⟨(iI (mc + 1)).toInt, ar, ⟨Int32.le_toInt _, Int32.toInt_lt _⟩, (by rw [gup_s, hmc]), (by omega), Or.inr ⟨har, cap, f2, (by rw [gup_n hcap.2.2.2, gup_s]), hf, (by omega), (by omega), (by omega)⟩⟩⟩
def shN (h : Int → Nat) : Int → Nat := fun i => if 0 ≤ i ∧ i < 50 then h (i + 1) else h i
def shA (A : Int → Nat → Nat) : Int → Nat → Nat := fun i => if 0 ≤ i ∧ i < 50 then A (i + 1) else A i
theorem shN_p {i : Int} (hi : 0 ≤ i ∧ i < 50) : shN h i = h (i + 1) := if_pos hi
theorem shN_o {i : Int} (hi : ¬ (0 ≤ i ∧ i < 50)) : shN h i = h i := if_neg hi
theorem shA_p {i : Int} (hi : 0 ≤ i ∧ i < 50) : shA A i = A (i + 1) := if_pos hi
theorem shA_o {i : Int} (hi : ¬ (0 ≤ i ∧ i < 50)) : shA A i = A i := if_neg hi
theorem ed_sh {mc : Int} {ar cap : Nat} {f2 : Int → Option Nat} (hC : edC D X tg e nid pl sv pd h A S P kn L V Pd ln G) (hk : 0 < kn) (hn : nid ≤ 900) (hc : G pl = some (alO mc ar kn)) (har : tg ar = 99502) (hcap : G ar ≠ none ∧ kn ≤ cap ∧ cap ≤ 1000 ∧ ar ≠ pl) (hf : elF f2 cap (kn - 1) (rmE1 (fun i => A i 0) 0)) (hG' : G' = gup (gup G ar (qA D cap f2)) pl (alO (mc + 1) ar (kn - 1))) :
    tgR tg tg 995 G G' ∧ edC D X tg e nid pl sv pd (shN h) (shA A) S (fun i => P (138 + i)) (kn - 1) L V Pd ln G' := by
  obtain ⟨ht, ho, hal⟩ := ed_cut hC hk hc har hcap hf hG'
  obtain ⟨⟨c1, c2, c3, c4⟩, c5, c6, c7, c8, ⟨f, c9, c10⟩, c11⟩ := id hC
  refine ⟨ht, ⟨by rw [shA_o (by omega)]; exact ho _ _ c1 (by omega) (by omega), c2, c3, c4⟩, fun i hi => ?_, fun i j hi hj hij => ?_, by omega, alR_el hal (fun i a b => ?_), ⟨f, ho _ _ c9 (by omega) (by omega), fun k a b => by rw [shA_o (by omega)]; exact c10 k a b⟩, sb_tg c11 ht (by omega) (by omega)⟩
  · by_cases z : 0 ≤ i ∧ i < 50
    · obtain ⟨h1, W2, h2⟩ := c5 (i + 1) (by unfold edU at hi ⊢; omega)
      rw [shN_p z, shA_p z]
      refine ⟨h1, W2, hs_tg (hs_row h2 (fun j a b _ => ?_)) ht (by omega) (by omega)⟩
      have hi2 : i < kn - 1 := by unfold edU at hi; omega
      unfold edW
      rw [if_neg (by omega), if_pos (by omega), if_neg (by omega), if_pos (by omega)]
      show P (138 + (138 * i + j)) = P (138 * (i + 1) + j)
      rw [show 138 + (138 * i + j) = 138 * (i + 1) + j by omega]
    · have hi' : edU kn V i := by unfold edU at hi ⊢; omega
      obtain ⟨h1, W2, h2⟩ := c5 i hi'
      rw [shN_o z, shA_o z]
      refine ⟨h1, W2, hs_tg (hs_row h2 (fun j a b _ => ?_)) ht (by omega) (by omega)⟩
      unfold edW
      rcases hi' with rfl | hi | ⟨rfl, hv⟩ | ⟨rfl, hv⟩
      · rfl
      · omega
      · rw [if_neg (by omega), if_neg (by omega), if_neg (by omega), if_neg (by omega)]
      · rw [if_neg (by omega), if_neg (by omega), if_neg (by omega), if_neg (by omega)]
  · by_cases z : 0 ≤ i ∧ i < 50
    · by_cases y : 0 ≤ j ∧ j < 50
      · rw [shN_p z, shN_p y] at hij
        have := c6 _ _ (by unfold edU at hi ⊢; omega) (by unfold edU at hj ⊢; omega) hij
        omega
      · rw [shN_p z, shN_o y] at hij
        have := c6 _ _ (by unfold edU at hi ⊢; omega) (by unfold edU at hj ⊢; omega) hij
        unfold edU at hi hj
        omega
    · by_cases y : 0 ≤ j ∧ j < 50
      · rw [shN_o z, shN_p y] at hij
        have := c6 _ _ (by unfold edU at hi ⊢; omega) (by unfold edU at hj ⊢; omega) hij
        unfold edU at hi hj
        omega
      · rw [shN_o z, shN_o y] at hij
        exact c6 _ _ (by unfold edU at hi ⊢; omega) (by unfold edU at hj ⊢; omega) hij
  · unfold rmE1
    rw [if_neg (by omega), shA_p (by omega)]
/-- the last of the past becomes the house now -/
theorem ed_pop {mc : Int} {ar cap : Nat} {f2 : Int → Option Nat} (hC : edC D X tg e nid pl sv pd h A S P kn L V Pd ln G) (hk : 0 < kn) (hn : nid ≤ 900) (hc : G pl = some (alO mc ar kn)) (har : tg ar = 99502) (hcap : G ar ≠ none ∧ kn ≤ cap ∧ cap ≤ 1000 ∧ ar ≠ pl) (hf : elF f2 cap (kn - 1) (rmE1 (fun i => A i 0) (kn - 1))) (hG' : G' = gup (gup G ar (qA D cap f2)) pl (alO (mc + 1) ar (kn - 1))) :
    tgR tg tg 995 G (gup G' e (edO (A (kn - 1) 0) pl sv pd)) ∧ edC D X tg e nid pl sv pd (fu h (-1) (h (kn - 1))) (fu A (-1) (A (kn - 1))) (fun i => P (138 * (kn - 1) + i)) P (kn - 1) L V Pd ln (gup G' e (edO (A (kn - 1) 0) pl sv pd)) := by
  obtain ⟨ht0, ho, hal⟩ := ed_cut hC hk hc har hcap hf hG'
  obtain ⟨⟨c1, c2, c3, c4⟩, c5, c6, c7, c8, ⟨f, c9, c10⟩, c11⟩ := id hC
  have ht := tgR_upH (a := e) (e := edO (A (kn - 1) 0) pl sv pd) ht0 (by omega) (nn_s (ho _ _ c1 (by omega) (by omega)))
  refine ⟨ht, ⟨by rw [gup_s, fu_s], c2, c3, c4⟩, fun i hi => ?_, fun i j hi hj hij => ?_, by omega, alR_el (alR_mv hal (fun f hf => by rw [gup_n (fun z => by rw [z] at c3; omega)]; exact hf) (fun q f hf hq => ⟨by rw [gup_n (fun z => by rw [z] at hq; omega)]; exact hf, rfl⟩)) (fun i a b => ?_), ⟨f, by rw [gup_n (fun z => by rw [z] at c4; omega)]; exact ho _ _ c9 (by omega) (by omega), fun k a b => by rw [fu_n (by omega)]; exact c10 k a b⟩, sb_tg c11 ht (by omega) (by omega)⟩
  · by_cases z : i = -1
    · subst z
      obtain ⟨h1, W2, h2⟩ := c5 (kn - 1) (by unfold edU; omega)
      rw [fu_s, fu_s]
      refine ⟨h1, W2, hs_tg (hs_row h2 (fun j a b _ => ?_)) ht (by omega) (by omega)⟩
      unfold edW
      rw [if_pos rfl, if_neg (by omega), if_pos (by omega)]
    · have hi' : edU kn V i := by unfold edU at hi ⊢; omega
      obtain ⟨h1, W2, h2⟩ := c5 i hi'
      rw [fu_n z, fu_n z]
      refine ⟨h1, W2, hs_tg (hs_row h2 (fun j a b _ => ?_)) ht (by omega) (by omega)⟩
      unfold edW
      rw [if_neg z, if_neg z]
  · by_cases z : i = -1
    · by_cases y : j = -1
      · omega
      · rw [z, fu_s, fu_n y] at hij
        have := c6 _ _ (by unfold edU; omega) (by unfold edU at hj ⊢; omega) hij
        unfold edU at hi hj
        omega
    · by_cases y : j = -1
      · rw [y, fu_s, fu_n z] at hij
        have := c6 _ _ (by unfold edU at hi ⊢; omega) (by unfold edU; omega) hij
        unfold edU at hi hj
        omega
      · rw [fu_n z, fu_n y] at hij
        exact c6 _ _ (by unfold edU at hi ⊢; omega) (by unfold edU at hj ⊢; omega) hij
  · unfold rmE1
    rw [if_pos b, fu_n (by omega)]
/-- a copy is saved -/
theorem ed_sav {B : Nat → Nat} {W L' : Int → Int} {f : Int → Option Nat} {k : Int} (hC : edC D X tg e nid pl sv pd h A S P kn L V Pd ln G) (hk : k = 0 ∨ k = 1) (hB : hsR D X tg nid B S W G) (hn : nid < 900) (hsv : G sv = some (hA D 2 f)) (hL1 : ∀ j, 0 ≤ j → j < 138 → L' (138 * k + j) = S j) (hL2 : ∀ j, (j < 138 * k ∨ 138 * k + 138 ≤ j) → L' j = L j) :
    tgR tg tg 995 G (gup G sv (hA D 2 (fu f k (some (B 0))))) ∧ edC D X tg e (nid + 1) pl sv pd (fu h (100 + k) nid) (fu A (100 + k) B) S P kn L' (fu V k 1) Pd ln (gup G sv (hA D 2 (fu f k (some (B 0))))) := by
  obtain ⟨⟨c1, c2, c3, c4⟩, c5, c6, c7, c8, ⟨f0, c9, c10⟩, c11⟩ := id hC
  have c10' : ∀ k, 0 ≤ k → k < 2 → f k = if V k = 1 then some (A (100 + k) 0) else none := fun j a b => by
    have z := c9.symm.trans hsv
    have z2 := congrArg (fun o : Option va_E => match o with | some (.inl (_, _, .inr (.inr (.inr (.inr g))))) => g j.toNat | _ => none) z
    have z3 : f0 ((j.toNat : Nat) : Int) = f ((j.toNat : Nat) : Int) := z2
    rw [show ((j.toNat : Nat) : Int) = j by omega] at z3
    rw [← z3]
    exact c10 j a b
  have ht := tgR_upH (tg := tg) (a := sv) (e := hA D 2 (fu f k (some (B 0)))) (tgR_rf (hid := 995)) (by omega) (nn_s hsv)
  have ho : ∀ q g, G q = some g → tg q ≠ 99503 → gup G sv (hA D 2 (fu f k (some (B 0)))) q = some g := fun q g hg h1 => by rw [gup_n (fun z => h1 (by rw [z]; exact c4))]; exact hg
  refine ⟨ht, ⟨by rw [fu_n (by omega)]; exact ho _ _ c1 (by omega), c2, c3, c4⟩, fun i hi => ?_, fun i j hi hj hij => ?_, c7, alR_el (alR_mv c8 (fun f hf => ho _ _ hf (by omega)) (fun q f hf hq => ⟨ho _ _ hf (by omega), rfl⟩)) (fun i a b => by rw [fu_n (by omega)]), ⟨_, gup_s, fun j a b => ?_⟩, sb_tg c11 ht (by omega) (by omega)⟩
  · by_cases z : i = 100 + k
    · rw [z, fu_s, fu_s]
      refine ⟨by omega, W, hs_tg (hs_row hB (fun j a b _ => ?_)) ht (by omega) (by omega)⟩
      unfold edW
      rw [if_neg (by omega), if_neg (by omega), show 100 + k - 100 = k by omega]
      exact hL1 j a b
    · have hi' : edU kn V i := by
        unfold edU at hi ⊢
        rcases hk with rfl | rfl
        · rw [fu_n (show (1 : Int) ≠ 0 by omega)] at hi; omega
        · rw [fu_n (show (0 : Int) ≠ 1 by omega)] at hi; omega
      obtain ⟨h1, W2, h2⟩ := c5 i hi'
      rw [fu_n z, fu_n z]
      refine ⟨by omega, W2, hs_tg (hs_row h2 (fun j a b _ => ?_)) ht (by omega) (by omega)⟩
      unfold edW
      rcases hi' with rfl | hi | ⟨rfl, hv⟩ | ⟨rfl, hv⟩
      · rfl
      · rw [if_neg (by omega), if_pos (by omega), if_neg (by omega), if_pos (by omega)]
      · rw [if_neg (by omega), if_neg (by omega), if_neg (by omega), if_neg (by omega)]; exact hL2 _ (by omega)
      · rw [if_neg (by omega), if_neg (by omega), if_neg (by omega), if_neg (by omega)]; exact hL2 _ (by omega)
  · have hd : ∀ i, edU kn (fu V k 1) i → i ≠ 100 + k → edU kn V i := fun i hi z => by
      unfold edU at hi ⊢
      rcases hk with rfl | rfl
      · rw [fu_n (show (1 : Int) ≠ 0 by omega)] at hi; omega
      · rw [fu_n (show (0 : Int) ≠ 1 by omega)] at hi; omega
    by_cases z : i = 100 + k
    · by_cases y : j = 100 + k
      · omega
      · have := (c5 j (hd j hj y)).1
        rw [z, fu_s, fu_n y] at hij
        omega
    · by_cases y : j = 100 + k
      · have := (c5 i (hd i hi z)).1
        rw [y, fu_s, fu_n z] at hij
        omega
      · rw [fu_n z, fu_n y] at hij
        exact c6 i j (hd i hi z) (hd j hj y) hij
  · by_cases z : j = k
    · rw [z, fu_s, fu_s, fu_s, if_pos rfl]
    · rw [fu_n z, fu_n z, fu_n (by omega)]
      exact c10' j a b
/-- a copy becomes the house now -/
theorem ed_res {B : Nat → Nat} {S' W : Int → Int} (hC : edC D X tg e nid pl sv pd h A S P kn L V Pd ln G) (hB : hsR D X tg nid B S' W G) (hn : nid < 900) :
    tgR tg tg 995 G (gup G e (edO (B 0) pl sv pd)) ∧ edC D X tg e (nid + 1) pl sv pd (fu h (-1) nid) (fu A (-1) B) S' P kn L V Pd ln (gup G e (edO (B 0) pl sv pd)) := by
  obtain ⟨⟨c1, c2, c3, c4⟩, c5, c6, c7, c8, ⟨f, c9, c10⟩, c11⟩ := id hC
  have ht := tgR_upH (tg := tg) (a := e) (e := edO (B 0) pl sv pd) (tgR_rf (hid := 995)) (by omega) (nn_s c1)
  have ho : ∀ q g, G q = some g → tg q ≠ 99500 → gup G e (edO (B 0) pl sv pd) q = some g := fun q g hg h1 => by rw [gup_n (fun z => h1 (by rw [z]; exact c2))]; exact hg
  refine ⟨ht, ⟨by rw [gup_s, fu_s], c2, c3, c4⟩, fun i hi => ?_, fun i j hi hj hij => ?_, c7, alR_el (alR_mv c8 (fun f hf => ho _ _ hf (by omega)) (fun q f hf hq => ⟨ho _ _ hf (by omega), rfl⟩)) (fun i a b => by rw [fu_n (by omega)]), ⟨f, ho _ _ c9 (by omega), fun k a b => by rw [fu_n (by omega)]; exact c10 k a b⟩, sb_tg c11 ht (by omega) (by omega)⟩
  · by_cases z : i = -1
    · subst z
      rw [fu_s, fu_s]
      exact ⟨by omega, W, hs_tg hB ht (by omega) (by omega)⟩
    · obtain ⟨h1, W2, h2⟩ := c5 i hi
      rw [fu_n z, fu_n z]
      refine ⟨by omega, W2, hs_tg (hs_row h2 (fun j a b _ => ?_)) ht (by omega) (by omega)⟩
      unfold edW
      rw [if_neg z, if_neg z]
  · by_cases z : i = -1
    · by_cases y : j = -1
      · omega
      · have := (c5 j hj).1
        rw [z, fu_s, fu_n y] at hij
        omega
    · by_cases y : j = -1
      · have := (c5 i hi).1
        rw [y, fu_s, fu_n z] at hij
        omega
      · rw [fu_n z, fu_n y] at hij
        exact c6 i j hi hj hij
theorem rmF_P {i : Int} (hk : kn ≠ 6) (h0 : 0 ≤ i ∧ i < 138 * kn) : rmF S P kn i = P i := by unfold rmF rmK; rw [if_neg hk, if_neg (by omega), if_neg hk]
theorem rmF_S {i : Int} (hk : kn ≠ 6) (h0 : 0 ≤ i ∧ i < 138) : rmF S P kn (138 * kn + i) = S i := by unfold rmF rmK; rw [if_neg hk, if_pos (by omega), show 138 * kn + i - 138 * (kn + 1 - 1) = i by omega]
theorem rmF_P6 {i : Int} (h0 : 0 ≤ i ∧ i < 138 * 5) : rmF S P 6 i = P (138 + i) := by unfold rmF rmK; rw [if_pos rfl, if_neg (by omega), if_pos rfl]
theorem rmF_S6 {i : Int} (h0 : 0 ≤ i ∧ i < 138) : rmF S P 6 (138 * 5 + i) = S i := by unfold rmF rmK; rw [if_pos rfl, if_pos (by omega), show 138 * 5 + i - 138 * ((6 : Int) - 1) = i by omega]
/-- what the twin remembers -/
theorem rem_F {P' : Int → Int} {kn' : Int} (hk : 0 ≤ kn ∧ kn ≤ 6) (hr : remR S P kn P' kn') : kn' = rmK kn ∧ ∀ i, 0 ≤ i → i < 138 * kn' → P' i = rmF S P kn i := by
  obtain ⟨h1, h2, h3, h4⟩ := hr
  refine ⟨h1, fun i a b => ?_⟩
  by_cases e : kn = 6
  · rw [if_pos e] at h1
    by_cases z : i < 690
    · rw [h3 e i a z, e, rmF_P6 (by omega)]
    · have := h2 (i - 690) (by omega) (by omega)
      rw [show 138 * (kn' - 1) + (i - 690) = i by omega] at this
      rw [this, e]
      have := rmF_S6 (S := S) (P := P) (i := i - 690) (by omega)
      rw [show 138 * 5 + (i - 690) = i by omega] at this
      exact this.symm
  · rw [if_neg e] at h1
    by_cases z : i < 138 * kn
    · rw [h4 e i a z, rmF_P e (by omega)]
    · have := h2 (i - 138 * kn) (by omega) (by omega)
      rw [show 138 * (kn' - 1) + (i - 138 * kn) = i by omega] at this
      rw [this]
      have := rmF_S (S := S) (P := P) (i := i - 138 * kn) e (by omega)
      rw [show 138 * kn + (i - 138 * kn) = i by omega] at this
      exact this.symm
end ED
