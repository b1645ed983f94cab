/-! ===== THE LAW: the two objects beside each other ===== -/
set_option maxRecDepth 100000
section LAWS
variable {D : va_G} {X tg tg1 tg' : Nat → Nat} {e nid nid' : Nat} {α : Nat → Nat} {S S' P P' L L' V V' Pd Pd' : Int → Int} {kn kn' ln ln' N N' : Int} {G G1 G2 : gM}
abbrev tag6 (tg α : Nat → Nat) : Prop := ∀ j, j < 6 → tg (α j) / 100 = 994
def lwH (D : va_G) (X tg : Nat → Nat) (e nid : Nat) (α : Nat → Nat) (S P : Int → Int) (kn : Int) (L V Pd : Int → Int) (ln N : Int) (G : gM) : Prop :=
  lwS S P kn L V Pd ln N ∧ tag6 tg α ∧ edR D X tg e nid S P kn L V Pd ln G ∧ tG D α S P kn L V Pd ln G = G
def lwJ (D : va_G) (X : Nat → Nat) (e : Nat) (α : Nat → Nat) (N : Int) (nid : Nat) (G : gM) : Prop :=
  ∃ (tg : Nat → Nat) (S P L V Pd : Int → Int) (kn ln : Int), lwH D X tg e nid α S P kn L V Pd ln N G
theorem edR_E (h : edR D X tg e nid S P kn L V Pd ln G) (hV : ∀ k, 0 ≤ k → k < 2 → V' k = V k) (hS : ∀ j, 0 ≤ j → j < 138 → S' j = S j) (hP : ∀ j, 0 ≤ j → j < 138 * kn → P' j = P j) (hL : ∀ k j, 0 ≤ k → k < 2 → V k = 1 → 0 ≤ j → j < 138 → L' (138 * k + j) = L (138 * k + j)) (hPd : ∀ j, 0 ≤ j → j < ln → Pd' j = Pd j) : edR D X tg e nid S' P' kn L' V' Pd' ln G := by
  obtain ⟨pl, sv, pd, hh, A, hC⟩ := h
  exact ⟨pl, sv, pd, hh, A, ed_E hC hV hS hP hL hPd⟩
theorem edR_mono (h : edR D X tg e nid S P kn L V Pd ln G) (hn : nid ≤ nid') : edR D X tg e nid' S P kn L V Pd ln G := by
  obtain ⟨pl, sv, pd, hh, A, c1, c2, c3⟩ := h
  exact ⟨pl, sv, pd, hh, A, c1, fun i hi => ⟨Nat.lt_of_lt_of_le (c2 i hi).1 hn, (c2 i hi).2⟩, c3⟩
theorem tw_tab (hα : aN α) : ∀ q ∈ ([(α 0, .inr (2, [.ref (α 1), .ref (α 2), .int (iI kn), .ref (α 3), .ref (α 4), .ref (α 5), .int (iI ln)])), (α 1, jA D 276 S), (α 2, jA D 828 P), (α 3, jA D 276 L), (α 4, zA D 2 V), (α 5, iA D 80 Pd)] : va_W), tG D α S P kn L V Pd ln G q.1 = some q.2 := by
  intro q hq
  simp only [List.mem_cons, List.not_mem_nil, or_false] at hq
  rcases hq with rfl | rfl | rfl | rfl | rfl | rfl
  · exact tg_m hα
  · exact tg_s hα
  · exact tg_p hα
  · exact tg_l hα
  · exact tg_v hα
  · exact tg_d hα
theorem tw_id (hα : aN α) : tG D α S P kn L V Pd ln (tG D α S P kn L V Pd ln G) = tG D α S P kn L V Pd ln G := ov_self (tw_tab hα)
theorem tw_mem {j : Nat} (hj : j < 6) : ∃ q ∈ ([(α 0, .inr (2, [.ref (α 1), .ref (α 2), .int (iI kn), .ref (α 3), .ref (α 4), .ref (α 5), .int (iI ln)])), (α 1, jA D 276 S), (α 2, jA D 828 P), (α 3, jA D 276 L), (α 4, zA D 2 V), (α 5, iA D 80 Pd)] : va_W), q.1 = α j := by
  rcases (by omega : j = 0 ∨ j = 1 ∨ j = 2 ∨ j = 3 ∨ j = 4 ∨ j = 5) with rfl | rfl | rfl | rfl | rfl | rfl
  · exact ⟨_, List.mem_cons_self, rfl⟩
  · exact ⟨_, List.mem_cons_of_mem _ List.mem_cons_self, rfl⟩
  · exact ⟨_, List.mem_cons_of_mem _ (List.mem_cons_of_mem _ List.mem_cons_self), rfl⟩
  · exact ⟨_, List.mem_cons_of_mem _ (List.mem_cons_of_mem _ (List.mem_cons_of_mem _ List.mem_cons_self)), rfl⟩
  · exact ⟨_, List.mem_cons_of_mem _ (List.mem_cons_of_mem _ (List.mem_cons_of_mem _ (List.mem_cons_of_mem _ List.mem_cons_self))), rfl⟩
  · exact ⟨_, List.mem_cons_of_mem _ (List.mem_cons_of_mem _ (List.mem_cons_of_mem _ (List.mem_cons_of_mem _ (List.mem_cons_of_mem _ List.mem_cons_self)))), rfl⟩
theorem tw_tag (ht : tag6 tg α) : ∀ q ∈ ([(α 0, .inr (2, [.ref (α 1), .ref (α 2), .int (iI kn), .ref (α 3), .ref (α 4), .ref (α 5), .int (iI ln)])), (α 1, jA D 276 S), (α 2, jA D 828 P), (α 3, jA D 276 L), (α 4, zA D 2 V), (α 5, iA D 80 Pd)] : va_W), tg q.1 / 100 = 994 := by
  intro q hq
  simp only [List.mem_cons, List.not_mem_nil, or_false] at hq
  rcases hq with rfl | rfl | rfl | rfl | rfl | rfl
  · exact ht 0 (by omega)
  · exact ht 1 (by omega)
  · exact ht 2 (by omega)
  · exact ht 3 (by omega)
  · exact ht 4 (by omega)
  · exact ht 5 (by omega)
theorem tw_keep (hα : aN α) (hT : tG D α S P kn L V Pd ln G = G) (ht : tag6 tg α) (hf : frT tg tg1 G G1) : tG D α S P kn L V Pd ln G1 = G1 ∧ tag6 tg1 α := by
  have h := tw_tab (D := D) (S := S) (P := P) (L := L) (V := V) (Pd := Pd) (kn := kn) (ln := ln) (G := G) hα
  refine ⟨ov_self (fun q hq => (hf q.1 q.2 ((congrFun hT.symm q.1).trans (h q hq)) (tw_tag ht q hq)).1), fun j hj => ?_⟩
  obtain ⟨q, hq, e⟩ := tw_mem (D := D) (α := α) (S := S) (P := P) (L := L) (V := V) (Pd := Pd) (kn := kn) (ln := ln) hj
  have := (hf q.1 q.2 ((congrFun hT.symm q.1).trans (h q hq)) (tw_tag ht q hq)).2
  rw [e] at this
  rw [this]
  exact ht j hj
theorem tw_out {q : Nat} (hq : ∀ j, j < 6 → q ≠ α j) : tG D α S P kn L V Pd ln G q = G q := by
  refine ov_out (fun z => ?_)
  obtain ⟨w, hw, rfl⟩ := List.mem_map.mp z
  simp only [List.mem_cons, List.not_mem_nil, or_false] at hw
  rcases hw with rfl | rfl | rfl | rfl | rfl | rfl
  · exact hq 0 (by omega) rfl
  · exact hq 1 (by omega) rfl
  · exact hq 2 (by omega) rfl
  · exact hq 3 (by omega) rfl
  · exact hq 4 (by omega) rfl
  · exact hq 5 (by omega) rfl
theorem tw_ed (hR : edR D X tg e nid S' P' kn' L' V' Pd' ln' G) (ht : tag6 tg α) (hn : nid ≤ 900) : edR D X tg e nid S' P' kn' L' V' Pd' ln' (tG D α S P kn L V Pd ln G) := by
  obtain ⟨pl, sv, pd, hh, A, hC⟩ := hR
  exact ⟨pl, sv, pd, hh, A, ed_othW (hid := 994) hC ⟨fun _ _ _ => rfl, fun q f hf h1 _ => by rw [tw_out (fun j hj z => h1 (by rw [z]; exact ht j hj))]; exact hf⟩ (by omega) hn⟩
theorem lj_mono (hJ : lwJ D X e α N nid G) (hN : N ≤ N') (hn : nid ≤ nid') : lwJ D X e α N' nid' G := by
  obtain ⟨tg, S, P, L, V, Pd, kn, ln, h1, h2, h3, h4⟩ := hJ
  exact ⟨tg, S, P, L, V, Pd, kn, ln, ls_mono hN h1, h2, edR_mono h3 hn, h4⟩
theorem lj_mk (hα : aN α) (hS : lwS S P kn L V Pd ln N) (ht : tag6 tg α) (hn : nid ≤ 900) (hR : edR D X tg e nid S P kn L V Pd ln G1) : lwJ D X e α N nid (tG D α S P kn L V Pd ln G1) :=
  ⟨tg, S, P, L, V, Pd, kn, ln, hS, ht, tw_ed hR ht hn, tw_id hα⟩
/-- what a call leaves of the twin's cells -/
theorem lo_T (hα : aN α) (hJ : lwH D X tg e nid α S P kn L V Pd ln N G) (hf : ∃ tg1 : Nat → Nat, frT tg tg1 G G1) : G1 = tG D α S P kn L V Pd ln G1 := by
  obtain ⟨tg1, hf⟩ := hf
  exact (tw_keep hα hJ.2.2.2 hJ.2.1 hf).1.symm
theorem frT_rf : frT tg tg G G := fun _ _ h _ => ⟨h, rfl⟩
theorem lf_id (h : G1 = G) : ∃ tg1 : Nat → Nat, frT tg tg1 G G1 := ⟨tg, by rw [h]; exact frT_rf⟩
theorem lf_E {Z : (Nat → Nat) → Prop} (h : ∃ tg' : Nat → Nat, frE tg tg' G G1 ∧ Z tg') : ∃ tg1 : Nat → Nat, frT tg tg1 G G1 := by
  obtain ⟨tg', h1, -⟩ := h
  exact ⟨tg', frT_e h1⟩
theorem lf_T {Z : (Nat → Nat) → Prop} (h : ∃ tg' : Nat → Nat, frT tg tg' G G1 ∧ Z tg') : ∃ tg1 : Nat → Nat, frT tg tg1 G G1 := by
  obtain ⟨tg', h1, -⟩ := h
  exact ⟨tg', h1⟩
/-- answers that leave all as it was -/
theorem lo_same (hJ : lwH D X tg e nid α S P kn L V Pd ln N G) (h1 : G1 = G) (h2 : G2 = tG D α S P kn L V Pd ln G1) : lwJ D X e α (N + 41) (nid + 2) G2 := by
  subst h1
  rw [h2, hJ.2.2.2]
  exact lj_mono (nid := nid) (N := N) ⟨tg, S, P, L, V, Pd, kn, ln, hJ⟩ (by omega) (by omega)
theorem lo_ask (hα : aN α) (hJ : lwH D X tg e nid α S P kn L V Pd ln N G) (hn : nid ≤ 800) (h1 : ∃ tg1 : Nat → Nat, frT tg tg1 G G1 ∧ edR D X tg1 e nid S P kn L V Pd ln G1) (hE : rqE S S') (h2 : G2 = tG D α S' P kn L V Pd ln G1) : lwJ D X e α (N + 41) (nid + 2) G2 := by
  obtain ⟨tg1, hf, hR⟩ := h1
  obtain ⟨hS, ht, -, hT⟩ := hJ
  have hk := tw_keep hα hT ht hf
  rw [h2]
  exact lj_mono (lj_mk hα (ls_row hE hS) hk.2 (by omega) (edR_E hR (fun _ _ _ => rfl) (fun j a b => hE j a b) (fun _ _ _ => rfl) (fun _ _ _ _ _ _ _ => rfl) (fun _ _ _ => rfl))) (by omega) (by omega)
theorem lo_askE (hα : aN α) (hJ : lwH D X tg e nid α S P kn L V Pd ln N G) (hn : nid ≤ 800) (h1 : ∃ tg1 : Nat → Nat, frE tg tg1 G G1 ∧ edR D X tg1 e nid S P kn L V Pd ln G1) (h2 : G2 = tG D α S P kn L V Pd ln G1) : lwJ D X e α (N + 41) (nid + 2) G2 := by
  obtain ⟨tg1, hf, hR⟩ := h1
  exact lo_ask hα hJ hn ⟨tg1, frT_e hf, hR⟩ (fun _ _ _ => rfl) h2
/-- changes -/
theorem lf_ch {why r1 r' : Int} {Z : (Nat → Nat) → Prop} (h1 : (why < 0 ∧ r1 = why ∧ G1 = G) ∨ (why = 0 ∧ r1 = r' ∧ ∃ tg' : Nat → Nat, frE tg tg' G G1 ∧ Z tg')) : ∃ tg1 : Nat → Nat, frT tg tg1 G G1 := by
  rcases h1 with ⟨-, -, h⟩ | ⟨-, -, h⟩
  · exact lf_id h
  · exact lf_E h
theorem lo_new (hα : aN α) (hJ : lwH D X tg e nid α S P kn L V Pd ln N G) (hn : nid ≤ 800) (hN : rW S' N') (hN1 : N ≤ N') (hN2 : N' ≤ N + 41) {nd : Nat} (hnd : nd ≤ nid + 2) {ln' : Int} {Pd' : Int → Int} (hp : padW Pd' ln') (hf : frT tg tg1 G G1) (hR : edR D X tg1 e nd S' (rmF S P kn) (rmK kn) L V Pd' ln' G1) (hr : remR S P kn P' kn') {S2 : Int → Int} (hE : rqE S' S2) (h2 : G2 = tG D α S2 P' kn' L V Pd' ln' G1) : lwJ D X e α (N + 41) (nid + 2) G2 := by
  obtain ⟨hS, ht, -, hT⟩ := hJ
  have hk := tw_keep hα hT ht hf
  obtain ⟨e1, e2⟩ := rem_F hS.2.1 hr
  rw [h2]
  subst e1
  exact lj_mono (lj_mk hα (ls_row hE (ls_rem (ls_pad hS hp) hr hN hN1)) hk.2 (by omega) (edR_E hR (fun _ _ _ => rfl) (fun j a b => hE j a b) (fun j a b => e2 j a b) (fun _ _ _ _ _ _ _ => rfl) (fun _ _ _ => rfl))) hN2 hnd
theorem lo_ch (hα : aN α) (hJ : lwH D X tg e nid α S P kn L V Pd ln N G) (hn : nid ≤ 800) {why r1 r2 r' : Int} (hN : why = 0 → rW S' (N + 1)) (h1 : (why < 0 ∧ r1 = why ∧ G1 = G) ∨ (why = 0 ∧ r1 = r' ∧ ∃ tg' : Nat → Nat, frE tg tg' G G1 ∧ edR D X tg' e (nid + 1) S' (rmF S P kn) (rmK kn) L V Pd ln G1))
    (h2 : (why < 0 ∧ r2 = why ∧ G2 = tG D α S P kn L V Pd ln G1) ∨ (why = 0 ∧ r2 = r' ∧ ∃ (P' : Int → Int) (kn' : Int), remR S P kn P' kn' ∧ G2 = tG D α S' P' kn' L V Pd ln G1)) : r1 = r2 ∧ lwJ D X e α (N + 41) (nid + 2) G2 := by
  rcases h1 with ⟨a1, a2, a3⟩ | ⟨a1, a2, tg', a3, a4⟩ <;> rcases h2 with ⟨b1, b2, b3⟩ | ⟨b1, b2, P', kn', b3, b4⟩
  · exact ⟨by omega, lo_same hJ a3 b3⟩
  · exact absurd b1 (by omega)
  · exact absurd a1 (by omega)
  · exact ⟨by omega, lo_new hα hJ hn (hN a1) (by omega) (by omega) (by omega) hJ.1.2.2.2.2.2 (frT_e a3) a4 b3 (fun _ _ _ => rfl) b4⟩
/-- the pad changes -/
theorem lo_pad (hα : aN α) (hJ : lwH D X tg e nid α S P kn L V Pd ln N G) (hn : nid ≤ 800) (hp : padW Pd' ln') (hf : frT tg tg1 G G1) (hR : edR D X tg1 e nid S P kn L V Pd' ln' G1) (h2 : G2 = tG D α S P kn L V Pd' ln' G1) : lwJ D X e α (N + 41) (nid + 2) G2 := by
  obtain ⟨hS, ht, -, hT⟩ := hJ
  have hk := tw_keep hα hT ht hf
  rw [h2]
  exact lj_mono (lj_mk hα (ls_pad hS hp) hk.2 (by omega) hR) (by omega) (by omega)
theorem lo_write (hα : aN α) (hJ : lwH D X tg e nid α S P kn L V Pd ln N G) (hn : nid ≤ 800) {m r1 r2 : Int} (h1 : (¬ (0 ≤ m ∧ m < S 7) ∧ r1 = -1 ∧ G1 = G) ∨ ((0 ≤ m ∧ m < S 7) ∧ r1 = ((wrL S m).length : Int) ∧ ∃ tg' : Nat → Nat, frE tg tg' G G1 ∧ edR D X tg' e nid S P kn L V (wr Pd 0 (wrL S m)) ((wrL S m).length : Int) G1))
    (h2 : (¬ (0 ≤ m ∧ m < S 7) ∧ r2 = -1 ∧ G2 = tG D α S P kn L V Pd ln G1) ∨ ((0 ≤ m ∧ m < S 7) ∧ r2 = ((wrL S m).length : Int) ∧ G2 = tG D α S P kn L V (wr Pd 0 (wrL S m)) ((wrL S m).length : Int) G1)) : r1 = r2 ∧ lwJ D X e α (N + 41) (nid + 2) G2 := by
  rcases h1 with ⟨a1, a2, a3⟩ | ⟨a1, a2, tg', a3, a4⟩ <;> rcases h2 with ⟨b1, b2, b3⟩ | ⟨b1, b2, b3⟩
  · exact ⟨by omega, lo_same hJ a3 b3⟩
  · exact absurd b1 a1
  · exact absurd a1 b1
  · exact ⟨by omega, lo_pad hα hJ hn pad_write (frT_e a3) a4 b3⟩
theorem lo_put (hα : aN α) (hJ : lwH D X tg e nid α S P kn L V Pd ln N G) (hn : nid ≤ 800) {v : Int64} {r1 r2 : Int} (h1 : r1 = puF v ln ∧ ((puF v ln < 0 ∧ G1 = G) ∨ (0 ≤ puF v ln ∧ ∃ tg' : Nat → Nat, frE tg tg' G G1 ∧ edR D X tg' e nid S P kn L V (wr Pd ln (puL v (pM v 8).toNat)) (ln + pM v 8) G1)))
    (h2 : r2 = puF v ln ∧ G2 = if puF v ln < 0 then tG D α S P kn L V Pd ln G1 else tG D α S P kn L V (wr Pd ln (puL v (pM v 8).toNat)) (ln + pM v 8) G1) : r1 = r2 ∧ lwJ D X e α (N + 41) (nid + 2) G2 := by
  obtain ⟨a0, ⟨a1, a2⟩ | ⟨a1, tg', a2, a3⟩⟩ := h1
  · rw [if_pos a1] at h2
    exact ⟨by omega, lo_same hJ a2 h2.2⟩
  · rw [if_neg (by omega)] at h2
    exact ⟨by omega, lo_pad hα hJ hn (pad_put hJ.1.2.2.2.2.2 a1) (frT_e a2) a3 h2.2⟩
theorem lf_put {v : Int64} {r1 : Int} {Z : (Nat → Nat) → Prop} (h1 : r1 = puF v ln ∧ ((puF v ln < 0 ∧ G1 = G) ∨ (0 ≤ puF v ln ∧ ∃ tg' : Nat → Nat, frE tg tg' G G1 ∧ Z tg'))) : ∃ tg1 : Nat → Nat, frT tg tg1 G G1 := by
  obtain ⟨-, ⟨-, h⟩ | ⟨-, h⟩⟩ := h1
  · exact lf_id h
  · exact lf_E h
theorem lo_wipe (hα : aN α) (hJ : lwH D X tg e nid α S P kn L V Pd ln N G) (hn : nid ≤ 800) {r1 r2 : Int} (h1 : r1 = ln ∧ ∃ tg' : Nat → Nat, frE tg tg' G G1 ∧ edR D X tg' e nid S P kn L V Pd 0 G1) (h2 : r2 = ln ∧ G2 = tG D α S P kn L V Pd 0 G1) : r1 = r2 ∧ lwJ D X e α (N + 41) (nid + 2) G2 := by
  obtain ⟨a0, tg', a2, a3⟩ := h1
  exact ⟨by omega, lo_pad hα hJ hn ⟨by omega, fun i a b => by omega⟩ (frT_e a2) a3 h2.2⟩
theorem lo_carry (hα : aN α) (hJ : lwH D X tg e nid α S P kn L V Pd ln N G) (hn : nid ≤ 800) {r1 r2 : Int} (h1 : (faF Pd ln 80 0 ≠ -6 ∧ r1 = -3 ∧ ∃ tg' : Nat → Nat, frT tg tg' G G1 ∧ edR D X tg' e nid S P kn L V Pd ln G1) ∨ (faF Pd ln 80 0 = -6 ∧ r1 = (caF Pd ln 41 S 0).2 ∧ ∃ tg' : Nat → Nat, frT tg tg' G G1 ∧ edR D X tg' e (nid + 1) (caF Pd ln 41 S 0).1 (rmF S P kn) (rmK kn) L V Pd 0 G1))
    (h2 : (faF Pd ln 80 0 ≠ -6 ∧ r2 = -3 ∧ G2 = tG D α S P kn L V Pd ln G1) ∨ (faF Pd ln 80 0 = -6 ∧ ∃ (P' : Int → Int) (kn' : Int), remR S P kn P' kn' ∧ r2 = (caF Pd ln 41 S 0).2 ∧ G2 = tG D α (caF Pd ln 41 S 0).1 P' kn' L V Pd 0 G1)) : r1 = r2 ∧ lwJ D X e α (N + 41) (nid + 2) G2 := by
  rcases h1 with ⟨a1, a2, a3⟩ | ⟨a1, a2, tg', a3, a4⟩ <;> rcases h2 with ⟨b1, b2, b3⟩ | ⟨b1, P', kn', b2, b3, b4⟩
  · exact ⟨by omega, lo_ask hα hJ hn a3 (fun _ _ _ => rfl) b3⟩
  · exact absurd b1 a1
  · exact absurd a1 b1
  · exact ⟨by omega, lo_new hα hJ hn (ca_keep 41 80 S 0 N (by omega) (by omega) (Or.inl a1) hJ.1.1) (by omega) (by omega) (by omega) ⟨by omega, fun i a b => by omega⟩ a3 a4 b2 (fun _ _ _ => rfl) b4⟩
theorem lf_carry {r1 : Int} {A B C F : Prop} {Z Y : (Nat → Nat) → Prop} (h1 : (A ∧ B ∧ ∃ tg' : Nat → Nat, frT tg tg' G G1 ∧ Z tg') ∨ (C ∧ F ∧ ∃ tg' : Nat → Nat, frT tg tg' G G1 ∧ Y tg')) : ∃ tg1 : Nat → Nat, frT tg tg1 G G1 := by
  rcases h1 with ⟨-, -, h⟩ | ⟨-, -, h⟩
  · exact lf_T h
  · exact lf_T h
theorem lf_2 {A B C F : Prop} {Z : (Nat → Nat) → Prop} (h1 : (A ∧ B ∧ G1 = G) ∨ (C ∧ F ∧ ∃ tg' : Nat → Nat, frE tg tg' G G1 ∧ Z tg')) : ∃ tg1 : Nat → Nat, frT tg tg1 G G1 := by
  rcases h1 with ⟨-, -, h⟩ | ⟨-, -, h⟩
  · exact lf_id h
  · exact lf_E h
theorem lf_3 {A B C F I J K : Prop} {Z : (Nat → Nat) → Prop} (h1 : (A ∧ B ∧ G1 = G) ∨ (I ∧ J ∧ K ∧ G1 = G) ∨ (C ∧ F ∧ I ∧ ∃ tg' : Nat → Nat, frE tg tg' G G1 ∧ Z tg')) : ∃ tg1 : Nat → Nat, frT tg tg1 G G1 := by
  rcases h1 with ⟨-, -, h⟩ | ⟨-, -, -, h⟩ | ⟨-, -, -, h⟩
  · exact lf_id h
  · exact lf_id h
  · exact lf_E h
theorem lo_undo (hα : aN α) (hJ : lwH D X tg e nid α S P kn L V Pd ln N G) (hn : nid ≤ 800) {r1 r2 : Int} (h1 : (kn = 0 ∧ r1 = -5 ∧ G1 = G) ∨ (kn ≠ 0 ∧ r1 = kn - 1 ∧ ∃ tg' : Nat → Nat, frE tg tg' G G1 ∧ edR D X tg' e nid (fun i => P (138 * (kn - 1) + i)) P (kn - 1) L V Pd ln G1))
    (h2 : (kn = 0 ∧ r2 = -5 ∧ G2 = tG D α S P kn L V Pd ln G1) ∨ (kn ≠ 0 ∧ r2 = kn - 1 ∧ ∃ S' : Int → Int, (∀ i, 0 ≤ i → i < 138 → S' i = P (138 * (kn - 1) + i)) ∧ G2 = tG D α S' P (kn - 1) L V Pd ln G1)) : r1 = r2 ∧ lwJ D X e α (N + 41) (nid + 2) G2 := by
  rcases h1 with ⟨a1, a2, a3⟩ | ⟨a1, a2, tg', a3, a4⟩ <;> rcases h2 with ⟨b1, b2, b3⟩ | ⟨b1, b2, S', b3, b4⟩
  · exact ⟨by omega, lo_same hJ a3 b3⟩
  · exact absurd a1 b1
  · exact absurd b1 a1
  · obtain ⟨⟨s1, s2, s3, s4⟩, ht, -, hT⟩ := hJ
    have hk := tw_keep hα hT ht (frT_e a3)
    refine ⟨by omega, ?_⟩
    rw [b4]
    exact lj_mono (lj_mk hα ⟨rW_E (fun i a b => b3 i a b) (s3 (kn - 1) (by omega) (by omega)), by omega, fun k a b => s3 k a (by omega), s4⟩ hk.2 (by omega) (edR_E a4 (fun _ _ _ => rfl) (fun j a b => b3 j a b) (fun _ _ _ => rfl) (fun _ _ _ _ _ _ _ => rfl) (fun _ _ _ => rfl))) (by omega) (by omega)
theorem lo_save (hα : aN α) (hJ : lwH D X tg e nid α S P kn L V Pd ln N G) (hn : nid ≤ 800) {i r1 r2 : Int} (h1 : (¬ (0 ≤ i ∧ i ≤ 1) ∧ r1 = -2 ∧ G1 = G) ∨ ((0 ≤ i ∧ i ≤ 1) ∧ r1 = S 7 ∧ ∃ tg' : Nat → Nat, frE tg tg' G G1 ∧ edR D X tg' e (nid + 1) S P kn (svF S L i) (fu V i 1) Pd ln G1))
    (h2 : (¬ (0 ≤ i ∧ i ≤ 1) ∧ r2 = -2 ∧ G2 = tG D α S P kn L V Pd ln G1) ∨ ((0 ≤ i ∧ i ≤ 1) ∧ r2 = S 7 ∧ ∃ L' : Int → Int, (∀ j, 0 ≤ j → j < 138 → L' (138 * i + j) = S j) ∧ (∀ j, (j < 138 * i ∨ 138 * i + 138 ≤ j) → L' j = L j) ∧ G2 = tG D α S P kn L' (fu V i 1) Pd ln G1)) : r1 = r2 ∧ lwJ D X e α (N + 41) (nid + 2) G2 := by
  rcases h1 with ⟨a1, a2, a3⟩ | ⟨a1, a2, tg', a3, a4⟩ <;> rcases h2 with ⟨b1, b2, b3⟩ | ⟨b1, b2, L', b3, b4, b5⟩
  · exact ⟨by omega, lo_same hJ a3 b3⟩
  · exact absurd b1 a1
  · exact absurd a1 b1
  · obtain ⟨hS, ht, -, hT⟩ := hJ
    have hk := tw_keep hα hT ht (frT_e a3)
    refine ⟨by omega, ?_⟩
    rw [b5]
    refine lj_mono (lj_mk hα (ls_sav a1 hS b3 b4) hk.2 (by omega) (edR_E a4 (fun _ _ _ => rfl) (fun _ _ _ => rfl) (fun _ _ _ => rfl) (fun k j c d _ f g => ?_) (fun _ _ _ => rfl))) (by omega) (by omega)
    by_cases z : k = i
    · rw [z, b3 j f g, svF_1 j f g]
    · rw [b4 _ (by omega), svF_2 _ (by omega)]
theorem lo_restore (hα : aN α) (hJ : lwH D X tg e nid α S P kn L V Pd ln N G) (hn : nid ≤ 800) {i r1 r2 : Int} (h1 : (¬ (0 ≤ i ∧ i ≤ 1) ∧ r1 = -2 ∧ G1 = G) ∨ ((0 ≤ i ∧ i ≤ 1) ∧ V i = 0 ∧ r1 = -5 ∧ G1 = G) ∨ ((0 ≤ i ∧ i ≤ 1) ∧ V i = 1 ∧ r1 = L (138 * i + 7) ∧ ∃ tg' : Nat → Nat, frE tg tg' G G1 ∧ edR D X tg' e (nid + 2) (fun j => L (138 * i + j)) (rmF S P kn) (rmK kn) L V Pd ln G1))
    (h2 : (¬ (0 ≤ i ∧ i ≤ 1) ∧ r2 = -2 ∧ G2 = tG D α S P kn L V Pd ln G1) ∨ ((0 ≤ i ∧ i ≤ 1) ∧ V i = 0 ∧ r2 = -5 ∧ G2 = tG D α S P kn L V Pd ln G1) ∨ ((0 ≤ i ∧ i ≤ 1) ∧ V i = 1 ∧ ∃ (P' : Int → Int) (kn' : Int) (S' : Int → Int), remR S P kn P' kn' ∧ (∀ j, 0 ≤ j → j < 138 → S' j = L (138 * i + j)) ∧ r2 = S' 7 ∧ G2 = tG D α S' P' kn' L V Pd ln G1)) : r1 = r2 ∧ lwJ D X e α (N + 41) (nid + 2) G2 := by
  rcases h1 with ⟨a1, a2, a3⟩ | ⟨a1, a2, a3, a4⟩ | ⟨a1, a2, a3, tg', a4, a5⟩ <;> rcases h2 with ⟨b1, b2, b3⟩ | ⟨b1, b2, b3, b4⟩ | ⟨b1, b2, P', kn', S', b3, b4, b5, b6⟩
  · exact ⟨by omega, lo_same hJ a3 b3⟩
  · exact absurd b1 a1
  · exact absurd b1 a1
  · exact absurd a1 b1
  · exact ⟨by omega, lo_same hJ a4 b4⟩
  · exact absurd b2 (by omega)
  · exact absurd a1 b1
  · exact absurd b2 (by omega)
  · have e7 := b4 7 (by omega) (by omega)
    exact ⟨by omega, lo_new hα hJ hn (hJ.1.2.2.2.2.1 i a1.1 a1.2 a2) (by omega) (by omega) (by omega) hJ.1.2.2.2.2.2 (frT_e a4) a5 b3 (fun j a b => b4 j a b) b6⟩
end LAWS
