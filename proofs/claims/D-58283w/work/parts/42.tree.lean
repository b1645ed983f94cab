/-! ===== powers and sets over the tree ===== -/
set_option maxRecDepth 100000
def pwr (S : Int → Int) (j : Nat) : Int := if S (102 + 3 * (j : Int) + 2) = 1 then S (102 + 3 * (j : Int) + 1) else 0
/-- the power of a meter's own loads -/
def own (S : Int → Int) (k : Int) : Int := smL (pwr S) (lsL S k)
section PWL
variable {S : Int → Int}
theorem smL_add {F F' : Nat → Int} {L : List Nat} : smL (fun c => F c + F' c) L = smL F L + smL F' L := by
  induction L with
  | nil => rfl
  | cons c L ih =>
    simp only [smL, List.map_cons, List.sum_cons] at ih ⊢
    omega
theorem smL_mul {F : Nat → Int} {a : Int} {L : List Nat} : smL (fun c => a * F c) L = a * smL F L := by
  induction L with
  | nil => simp [smL]
  | cons c L ih =>
    simp only [smL, List.map_cons, List.sum_cons] at ih ⊢
    rw [ih, Int.mul_add]
theorem smL_cg {F F' : Nat → Int} {L : List Nat} (h : ∀ c ∈ L, F c = F' c) : smL F L = smL F' L := by
  unfold smL
  rw [List.map_congr_left h]
theorem smL_z {F : Nat → Int} {L : List Nat} (h : ∀ c ∈ L, F c = 0) : smL F L = 0 := by
  induction L with
  | nil => rfl
  | cons c L ih =>
    have a := h c List.mem_cons_self
    have b := ih (fun d hd => h d (List.mem_cons_of_mem _ hd))
    simp only [smL, List.map_cons, List.sum_cons] at b ⊢
    omega
theorem smL_nn {F : Nat → Int} {L : List Nat} (h : ∀ c ∈ L, 0 ≤ F c) : 0 ≤ smL F L := by
  induction L with
  | nil => exact Int.le_refl 0
  | cons c L ih =>
    have a := h c List.mem_cons_self
    have b := ih (fun d hd => h d (List.mem_cons_of_mem _ hd))
    simp only [smL, List.map_cons, List.sum_cons] at b ⊢
    omega
theorem smL_le {F : Nat → Int} {L : List Nat} (h : ∀ c ∈ L, 0 ≤ F c) {c : Nat} (hc : c ∈ L) : F c ≤ smL F L := by
  induction L with
  | nil => cases hc
  | cons d L ih =>
    have b := smL_nn (F := F) (L := L) (fun x hx => h x (List.mem_cons_of_mem _ hx))
    have a := h d List.mem_cons_self
    rcases List.mem_cons.mp hc with rfl | hc
    · simp only [smL, List.map_cons, List.sum_cons] at b ⊢
      omega
    · have := ih (fun x hx => h x (List.mem_cons_of_mem _ hx)) hc
      simp only [smL, List.map_cons, List.sum_cons] at this ⊢
      omega
theorem pwF_ind {k : Int} {n : Nat} : pwF S k (n + 1) = pwF S k n + pwr S n * ind (thr S (S (102 + 3 * (n : Int))) k) := by
  show pwF S k n + (if S (102 + 3 * (n : Int) + 2) = 1 ∧ thr S (S (102 + 3 * (n : Int))) k = true then S (102 + 3 * (n : Int) + 1) else 0) = _
  unfold pwr ind
  by_cases h1 : S (102 + 3 * (n : Int) + 2) = 1
  · by_cases h2 : thr S (S (102 + 3 * (n : Int))) k = true
    · rw [if_pos ⟨h1, h2⟩, if_pos h1, if_pos h2, Int.mul_one]
    · rw [if_neg (fun z => h2 z.2), if_pos h1, if_neg h2, Int.mul_zero]
  · rw [if_neg (fun z => h1 z.1), if_neg h1, Int.zero_mul]
theorem pwF_sum (hT : treeW S) (hL : loadW S) {k : Int} (h0 : 0 ≤ k) : ∀ n : Nat, (n : Int) ≤ S 8 → pwF S k n = smL (pwr S) ((List.range n).filter (fun j : Nat => decide (S (102 + 3 * (j : Int)) = k))) + smL (fun c => pwF S (c : Int) n) (chL S k)
  | 0, _ => by
    have : smL (fun c => pwF S (c : Int) 0) (chL S k) = 0 := smL_z (fun c _ => rfl)
    rw [this]
    rfl
  | n + 1, h => by
    have ih := pwF_sum hT hL h0 n (by omega)
    have hl := (hL.2 n (by omega) (by omega)).1
    obtain ⟨x, hx⟩ : ∃ x : Nat, S (102 + 3 * (n : Int)) = x := ⟨(S (102 + 3 * (n : Int))).toNat, by omega⟩
    have ts := thr_sum hT h0 (x + 1) x (by omega) (by omega)
    rw [pwF_ind, ih, smL_range, smL_cg (F := fun c : Nat => pwF S (c : Int) (n + 1)) (fun c _ => pwF_ind), smL_add, smL_mul, hx, ts, Int.mul_add]
    by_cases hk : (x : Int) = k
    · rw [show decide ((x : Int) = k) = true by simpa using hk]
      simp [ind]
      omega
    · rw [show decide ((x : Int) = k) = false by simpa using hk]
      simp [ind]
      omega
/-- a meter's power: its own loads, and what is fed through it -/
theorem pw_sum (hT : treeW S) (hL : loadW S) {k : Int} (h0 : 0 ≤ k) : pw S k = own S k + smL (fun c => pw S (c : Int)) (chL S k) := by
  have h8 := hL.1
  exact pwF_sum hT hL h0 (S 8).toNat (by omega)
theorem ind_r {b : Bool} : 0 ≤ ind b ∧ ind b ≤ 1 := by unfold ind; split <;> omega
theorem ind_1 {b : Bool} : ind b = 1 ↔ b = true := by cases b <;> simp [ind]
theorem thr_any (hT : treeW S) {k : Int} (h0 : 0 ≤ k) {x : Nat} (hx : (x : Int) < S 7) : thr S x k = true ↔ (x : Int) = k ∨ ∃ c ∈ chL S k, thr S x (c : Int) = true := by
  have ts := thr_sum hT h0 (x + 1) x (by omega) hx
  have hn : ∀ c ∈ chL S k, 0 ≤ ind (thr S x (c : Int)) := fun c _ => ind_r.1
  have h1 := ind_r (b := thr S x k)
  constructor
  · intro h
    by_cases hk : (x : Int) = k
    · exact Or.inl hk
    · refine Or.inr (Classical.byContradiction fun hh => ?_)
      have hz : smL (fun c : Nat => ind (thr S x (c : Int))) (chL S k) = 0 := smL_z (fun c hc => by
          have : thr S x (c : Int) ≠ true := fun z => hh ⟨c, hc, z⟩
          simp [ind, this])
      rw [hz, h, show decide ((x : Int) = k) = false by simpa using hk] at ts
      simp [ind] at ts
  · rintro (h | ⟨c, hc, h⟩)
    · rw [h, thr_self]
    · have := smL_le (F := fun c : Nat => ind (thr S x (c : Int))) hn hc
      simp only [ind_1.mpr h] at this
      have h2 := ind_r (b := decide ((x : Int) = k))
      exact ind_1.mp (by omega)
theorem pw_nn (hL : loadW S) {k : Int} : 0 ≤ pw S k := (pw_bd hL k).1
/-- sets over numbers below n, joined -/
def btN (f : Int → Bool) : Nat → Nat
  | 0 => 0
  | n + 1 => btN f n + if f n = true then 2 ^ n else 0
theorem btN_lt {f : Int → Bool} : ∀ n, btN f n < 2 ^ n
  | 0 => by simp [btN]
  | n + 1 => by
    have := btN_lt (f := f) n
    rw [Nat.pow_succ]
    simp only [btN]
    split <;> omega
theorem btN_bts {f : Int → Bool} : ∀ n : Nat, bts f n = (btN f n : Int)
  | 0 => rfl
  | n + 1 => by
    simp only [bts, btN]
    rw [btN_bts n]
    split <;> simp
theorem btN_bit {f : Int → Bool} : ∀ (n i : Nat), (btN f n).testBit i = (decide (i < n) && f i)
  | 0, i => by simp [btN]
  | n + 1, i => by
    have hl := btN_lt (f := f) n
    have e : btN f (n + 1) = btN f n ||| (if f n = true then 2 ^ n else 0) := by
      simp only [btN]
      split
      · exact (or_add hl).symm
      · simp
    rw [e, Nat.testBit_or, btN_bit n i]
    by_cases h : f n = true
    · rw [if_pos h, Nat.testBit_two_pow]
      by_cases e : n = i
      · subst e; simp [h]
      · have : decide (i < n + 1) = decide (i < n) := by simp; omega
        simp [e, this]
    · rw [if_neg h]
      by_cases e : n = i
      · subst e; simp [h]
      · have : decide (i < n + 1) = decide (i < n) := by simp; omega
        simp [this]
theorem bts_or {f g h : Int → Bool} {n : Nat} (hh : ∀ i : Nat, i < n → h i = (f i || g i)) : iI (bts f n) ||| iI (bts g n) = iI (bts h n) := by
  rw [btN_bts, btN_bts, btN_bts, iI_or]
  congr 2
  apply Nat.eq_of_testBit_eq
  intro i
  rw [Nat.testBit_or, btN_bit, btN_bit, btN_bit]
  by_cases hi : i < n
  · rw [hh i hi]; simp [hi]
  · simp [hi]
theorem bts_cg {f g : Int → Bool} : ∀ {n : Nat}, (∀ i : Nat, i < n → f i = g i) → bts f n = bts g n
  | 0, _ => rfl
  | n + 1, h => by
    simp only [bts]
    rw [bts_cg (fun i hi => h i (by omega)), h n (by omega)]
theorem bts_one {k : Nat} : ∀ {n : Nat}, k < n → bts (fun i => decide (i = (k : Int))) n = 2 ^ k
  | 0, h => by omega
  | n + 1, h => by
    simp only [bts]
    by_cases e : k = n
    · subst e
      have : bts (fun i => decide (i = (k : Int))) k = 0 := by
        have hz : ∀ m : Nat, m ≤ k → bts (fun i => decide (i = (k : Int))) m = 0 := by
          intro m
          induction m with
          | zero => intro _; rfl
          | succ m ih =>
            intro hm
            simp only [bts]
            rw [ih (by omega), if_neg (by simp; omega)]
            rfl
        exact hz k (Nat.le_refl _)
      rw [this]
      simp
    · rw [bts_one (by omega), if_neg (by simp; omega)]
      omega
end PWL
