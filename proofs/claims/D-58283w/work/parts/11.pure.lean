/-! ===== numbers ===== -/
set_option maxRecDepth 100000
abbrev rI (z : Int) : Prop := -2147483648 ≤ z ∧ z < 2147483648
abbrev rJ (z : Int) : Prop := -9223372036854775808 ≤ z ∧ z < 9223372036854775808
theorem iI_add (a b : Int) : iI (a + b) = iI a + iI b := Int32.ofInt_add ..
theorem iI_sub (a b : Int) : iI (a - b) = iI a - iI b := Int32.ofInt_sub ..
theorem iI_mul (a b : Int) : iI (a * b) = iI a * iI b := Int32.ofInt_mul ..
theorem iI_neg (a : Int) : iI (-a) = -iI a := Int32.ofInt_neg ..
theorem jI_add (a b : Int) : jI (a + b) = jI a + jI b := Int64.ofInt_add ..
theorem jI_sub (a b : Int) : jI (a - b) = jI a - jI b := Int64.ofInt_sub ..
theorem jI_mul (a b : Int) : jI (a * b) = jI a * jI b := Int64.ofInt_mul ..
theorem jI_neg (a : Int) : jI (-a) = -jI a := Int64.ofInt_neg ..
theorem iI_toInt {z : Int} (h : rI z) : (iI z).toInt = z := Int32.toInt_ofInt_of_le h.1 h.2
theorem jI_toInt {z : Int} (h : rJ z) : (jI z).toInt = z := Int64.toInt_ofInt_of_le h.1 h.2
theorem iI_of (x : Int32) : x = iI x.toInt := (Int32.ofInt_toInt x).symm
theorem jI_of (x : Int64) : x = jI x.toInt := (Int64.ofInt_toInt x).symm
theorem rI_toInt (x : Int32) : rI x.toInt := ⟨Int32.le_toInt x, Int32.toInt_lt x⟩
theorem rJ_toInt (x : Int64) : rJ x.toInt := ⟨Int64.le_toInt x, Int64.toInt_lt x⟩
theorem iI_lt {a b : Int} (ha : rI a) (hb : rI b) : iI a < iI b ↔ a < b := by rw [Int32.lt_iff_toInt_lt, iI_toInt ha, iI_toInt hb]
theorem iI_le {a b : Int} (ha : rI a) (hb : rI b) : iI a ≤ iI b ↔ a ≤ b := by rw [Int32.le_iff_toInt_le, iI_toInt ha, iI_toInt hb]
theorem iI_eq {a b : Int} (ha : rI a) (hb : rI b) : iI a = iI b ↔ a = b := by rw [← Int32.toInt_inj, iI_toInt ha, iI_toInt hb]
theorem jI_lt {a b : Int} (ha : rJ a) (hb : rJ b) : jI a < jI b ↔ a < b := by rw [Int64.lt_iff_toInt_lt, jI_toInt ha, jI_toInt hb]
theorem jI_le {a b : Int} (ha : rJ a) (hb : rJ b) : jI a ≤ jI b ↔ a ≤ b := by rw [Int64.le_iff_toInt_le, jI_toInt ha, jI_toInt hb]
theorem jI_eq {a b : Int} (ha : rJ a) (hb : rJ b) : jI a = jI b ↔ a = b := by rw [← Int64.toInt_inj, jI_toInt ha, jI_toInt hb]
theorem iI_0 : iI 0 = 0 := rfl
theorem jI_0 : jI 0 = 0 := rfl
theorem iI_div {a b : Int} (ha : 0 ≤ a) (ha2 : a < 2147483648) (hb : 0 < b) (hb2 : b < 2147483648) : iI a / iI b = iI (a / b) := by
  have h1 : a / b ≤ a := Int.ediv_le_self b ha
  have h2 : 0 ≤ a / b := Int.ediv_nonneg ha (by omega)
  rw [← Int32.toInt_inj, Int32.toInt_div, iI_toInt ⟨by omega, ha2⟩, iI_toInt ⟨by omega, hb2⟩, iI_toInt ⟨by omega, by omega⟩, Int.tdiv_eq_ediv_of_nonneg ha]
  exact Int.bmod_eq_of_le (by omega) (by omega)
theorem jI_div {a b : Int} (ha : 0 ≤ a) (ha2 : a < 9223372036854775808) (hb : 0 < b) (hb2 : b < 9223372036854775808) : jI a / jI b = jI (a / b) := by
  have h1 : a / b ≤ a := Int.ediv_le_self b ha
  have h2 : 0 ≤ a / b := Int.ediv_nonneg ha (by omega)
  rw [← Int64.toInt_inj, Int64.toInt_div, jI_toInt ⟨by omega, ha2⟩, jI_toInt ⟨by omega, hb2⟩, jI_toInt ⟨by omega, by omega⟩, Int.tdiv_eq_ediv_of_nonneg ha]
  exact Int.bmod_eq_of_le (by omega) (by omega)
theorem iI_rem {a b : Int} (ha : 0 ≤ a) (ha2 : a < 2147483648) (hb : 0 < b) (hb2 : b < 2147483648) : iI a - iI a / iI b * iI b = iI (a % b) := by
  rw [iI_div ha ha2 hb hb2, ← iI_mul, ← iI_sub]
  congr 1
  rw [Int.emod_def, Int.mul_comm]
theorem jI_rem {a b : Int} (ha : 0 ≤ a) (ha2 : a < 9223372036854775808) (hb : 0 < b) (hb2 : b < 9223372036854775808) : jI a - jI a / jI b * jI b = jI (a % b) := by
  rw [jI_div ha ha2 hb hb2, ← jI_mul, ← jI_sub]
  congr 1
  rw [Int.emod_def, Int.mul_comm]
theorem iI_j {a : Int} (h : rI a) : (iI a).toInt64 = jI a := by
  rw [← Int64.toInt_inj, Int32.toInt_toInt64, iI_toInt h, jI_toInt ⟨by omega, by omega⟩]
theorem jI_i (a : Int) : (jI a).toInt32 = iI a := by
  rw [← Int32.toInt_inj, Int64.toInt_toInt32]
  show ((Int64.ofInt a).toInt).bmod _ = (Int32.ofInt a).toInt
  rw [Int64.toInt_ofInt, Int32.toInt_ofInt]
  exact Int.bmod_bmod_of_dvd (by decide)
theorem iI_bip {n : Int} (h1 : -128 ≤ n) (h2 : n < 128) : (Int8.ofInt n).toInt32 = iI n := by
  rw [← Int32.toInt_inj, Int8.toInt_toInt32, Int8.toInt_ofInt_of_le h1 h2, iI_toInt ⟨by omega, by omega⟩]
theorem iI_sip {n : Int} (h1 : -32768 ≤ n) (h2 : n < 32768) : (Int16.ofInt n).toInt32 = iI n := by
  rw [← Int32.toInt_inj, Int16.toInt_toInt32, Int16.toInt_ofInt_of_le h1 h2, iI_toInt ⟨by omega, by omega⟩]
theorem iI_nat {n : Nat} : Int32.ofNat n = iI (n : Int) := by
  show Int32.ofNat n = Int32.ofInt (n : Int)
  exact (Int32.ofInt_eq_ofNat ..).symm
theorem jI_nat {n : Nat} : Int64.ofNat n = jI (n : Int) := by
  show Int64.ofNat n = Int64.ofInt (n : Int)
  exact (Int64.ofInt_eq_ofNat ..).symm
theorem iI_clamp {z : Int} (h0 : 0 ≤ z) (h : z < 2147483648) : ((iI z).toNatClampNeg : Int) = z := by
  show (((iI z).toInt.toNat : Nat) : Int) = z
  rw [iI_toInt ⟨by omega, h⟩]
  omega
theorem iI_in {z : Int} {n : Nat} (h0 : 0 ≤ z) (h1 : z < n) (h : z < 2147483648) : vp_in (iI z) n := by
  rw [vp_in_iff, iI_toInt ⟨by omega, h⟩]
  exact ⟨h0, h1⟩
theorem iI_i2b {z : Int} (h1 : -128 ≤ z) (h2 : z < 128) : (iI z).toInt8.toInt32 = iI z := by
  rw [← Int32.toInt_inj, Int8.toInt_toInt32, Int32.toInt_toInt8, iI_toInt ⟨by omega, by omega⟩]
  exact Int.bmod_eq_of_le (by omega) (by omega)
theorem iI_i2c {z : Int} (h1 : 0 ≤ z) (h2 : z < 65536) : ((iI z).toUInt32 % 65536).toInt32 = iI z := lg_i2c_word (by rw [iI_toInt ⟨by omega, by omega⟩]; exact h1) (by rw [iI_toInt ⟨by omega, by omega⟩]; exact h2)
/-- what lcmp leaves -/
def lC (a b : Int) : Int := if b < a then 1 else if a = b then 0 else -1
theorem lC_cmp {a b : Int} (ha : rJ a) (hb : rJ b) : lg_cmp (jI a) (jI b) = iI (lC a b) := by
  unfold lg_cmp lC
  simp only [jI_lt hb ha, jI_eq ha hb]
  by_cases h : b < a
  · rw [if_pos h, if_pos h]; rfl
  · rw [if_neg h, if_neg h]
    by_cases h2 : a = b
    · rw [if_pos h2, if_pos h2]; rfl
    · rw [if_neg h2, if_neg h2]; rfl
theorem lC_r {a b : Int} : rI (lC a b) := by unfold lC; (repeat' split) <;> omega
theorem lC_le {a b : Int} : lC a b ≤ 0 ↔ a ≤ b := by unfold lC; (repeat' split) <;> omega
theorem lC_lt {a b : Int} : lC a b < 0 ↔ a < b := by unfold lC; (repeat' split) <;> omega
theorem lC_ge {a b : Int} : 0 ≤ lC a b ↔ b ≤ a := by unfold lC; (repeat' split) <;> omega
theorem lC_gt {a b : Int} : 0 < lC a b ↔ b < a := by unfold lC; (repeat' split) <;> omega
theorem lC_eq {a b : Int} : lC a b = 0 ↔ a = b := by unfold lC; (repeat' split) <;> omega
/-! ===== places in lists ===== -/
theorem xg_0 {α : Type} {x : α} {t : List α} : (x :: t)[0]? = some x := rfl
theorem xs_0 {α : Type} {x v : α} {t : List α} : (x :: t).set 0 v = v :: t := rfl
theorem xg_1 {α : Type} {a0 x : α} {t : List α} : (a0 :: x :: t)[1]? = some x := rfl
theorem xs_1 {α : Type} {a0 x v : α} {t : List α} : (a0 :: x :: t).set 1 v = a0 :: v :: t := rfl
theorem xg_2 {α : Type} {a0 a1 x : α} {t : List α} : (a0 :: a1 :: x :: t)[2]? = some x := rfl
theorem xs_2 {α : Type} {a0 a1 x v : α} {t : List α} : (a0 :: a1 :: x :: t).set 2 v = a0 :: a1 :: v :: t := rfl
theorem xg_3 {α : Type} {a0 a1 a2 x : α} {t : List α} : (a0 :: a1 :: a2 :: x :: t)[3]? = some x := rfl
theorem xs_3 {α : Type} {a0 a1 a2 x v : α} {t : List α} : (a0 :: a1 :: a2 :: x :: t).set 3 v = a0 :: a1 :: a2 :: v :: t := rfl
theorem xg_4 {α : Type} {a0 a1 a2 a3 x : α} {t : List α} : (a0 :: a1 :: a2 :: a3 :: x :: t)[4]? = some x := rfl
theorem xs_4 {α : Type} {a0 a1 a2 a3 x v : α} {t : List α} : (a0 :: a1 :: a2 :: a3 :: x :: t).set 4 v = a0 :: a1 :: a2 :: a3 :: v :: t := rfl
theorem xg_5 {α : Type} {a0 a1 a2 a3 a4 x : α} {t : List α} : (a0 :: a1 :: a2 :: a3 :: a4 :: x :: t)[5]? = some x := rfl
theorem xs_5 {α : Type} {a0 a1 a2 a3 a4 x v : α} {t : List α} : (a0 :: a1 :: a2 :: a3 :: a4 :: x :: t).set 5 v = a0 :: a1 :: a2 :: a3 :: a4 :: v :: t := rfl
theorem xg_6 {α : Type} {a0 a1 a2 a3 a4 a5 x : α} {t : List α} : (a0 :: a1 :: a2 :: a3 :: a4 :: a5 :: x :: t)[6]? = some x := rfl
theorem xs_6 {α : Type} {a0 a1 a2 a3 a4 a5 x v : α} {t : List α} : (a0 :: a1 :: a2 :: a3 :: a4 :: a5 :: x :: t).set 6 v = a0 :: a1 :: a2 :: a3 :: a4 :: a5 :: v :: t := rfl
theorem xg_7 {α : Type} {a0 a1 a2 a3 a4 a5 a6 x : α} {t : List α} : (a0 :: a1 :: a2 :: a3 :: a4 :: a5 :: a6 :: x :: t)[7]? = some x := rfl
theorem xs_7 {α : Type} {a0 a1 a2 a3 a4 a5 a6 x v : α} {t : List α} : (a0 :: a1 :: a2 :: a3 :: a4 :: a5 :: a6 :: x :: t).set 7 v = a0 :: a1 :: a2 :: a3 :: a4 :: a5 :: a6 :: v :: t := rfl
theorem xg_8 {α : Type} {a0 a1 a2 a3 a4 a5 a6 a7 x : α} {t : List α} : (a0 :: a1 :: a2 :: a3 :: a4 :: a5 :: a6 :: a7 :: x :: t)[8]? = some x := rfl
theorem xs_8 {α : Type} {a0 a1 a2 a3 a4 a5 a6 a7 x v : α} {t : List α} : (a0 :: a1 :: a2 :: a3 :: a4 :: a5 :: a6 :: a7 :: x :: t).set 8 v = a0 :: a1 :: a2 :: a3 :: a4 :: a5 :: a6 :: a7 :: v :: t := rfl
theorem xg_9 {α : Type} {a0 a1 a2 a3 a4 a5 a6 a7 a8 x : α} {t : List α} : (a0 :: a1 :: a2 :: a3 :: a4 :: a5 :: a6 :: a7 :: a8 :: x :: t)[9]? = some x := rfl
theorem xs_9 {α : Type} {a0 a1 a2 a3 a4 a5 a6 a7 a8 x v : α} {t : List α} : (a0 :: a1 :: a2 :: a3 :: a4 :: a5 :: a6 :: a7 :: a8 :: x :: t).set 9 v = a0 :: a1 :: a2 :: a3 :: a4 :: a5 :: a6 :: a7 :: a8 :: v :: t := rfl
theorem xg_10 {α : Type} {a0 a1 a2 a3 a4 a5 a6 a7 a8 a9 x : α} {t : List α} : (a0 :: a1 :: a2 :: a3 :: a4 :: a5 :: a6 :: a7 :: a8 :: a9 :: x :: t)[10]? = some x := rfl
theorem xs_10 {α : Type} {a0 a1 a2 a3 a4 a5 a6 a7 a8 a9 x v : α} {t : List α} : (a0 :: a1 :: a2 :: a3 :: a4 :: a5 :: a6 :: a7 :: a8 :: a9 :: x :: t).set 10 v = a0 :: a1 :: a2 :: a3 :: a4 :: a5 :: a6 :: a7 :: a8 :: a9 :: v :: t := rfl
theorem xg_11 {α : Type} {a0 a1 a2 a3 a4 a5 a6 a7 a8 a9 a10 x : α} {t : List α} : (a0 :: a1 :: a2 :: a3 :: a4 :: a5 :: a6 :: a7 :: a8 :: a9 :: a10 :: x :: t)[11]? = some x := rfl
theorem xs_11 {α : Type} {a0 a1 a2 a3 a4 a5 a6 a7 a8 a9 a10 x v : α} {t : List α} : (a0 :: a1 :: a2 :: a3 :: a4 :: a5 :: a6 :: a7 :: a8 :: a9 :: a10 :: x :: t).set 11 v = a0 :: a1 :: a2 :: a3 :: a4 :: a5 :: a6 :: a7 :: a8 :: a9 :: a10 :: v :: t := rfl
theorem xg_12 {α : Type} {a0 a1 a2 a3 a4 a5 a6 a7 a8 a9 a10 a11 x : α} {t : List α} : (a0 :: a1 :: a2 :: a3 :: a4 :: a5 :: a6 :: a7 :: a8 :: a9 :: a10 :: a11 :: x :: t)[12]? = some x := rfl
theorem xs_12 {α : Type} {a0 a1 a2 a3 a4 a5 a6 a7 a8 a9 a10 a11 x v : α} {t : List α} : (a0 :: a1 :: a2 :: a3 :: a4 :: a5 :: a6 :: a7 :: a8 :: a9 :: a10 :: a11 :: x :: t).set 12 v = a0 :: a1 :: a2 :: a3 :: a4 :: a5 :: a6 :: a7 :: a8 :: a9 :: a10 :: a11 :: v :: t := rfl
theorem xg_13 {α : Type} {a0 a1 a2 a3 a4 a5 a6 a7 a8 a9 a10 a11 a12 x : α} {t : List α} : (a0 :: a1 :: a2 :: a3 :: a4 :: a5 :: a6 :: a7 :: a8 :: a9 :: a10 :: a11 :: a12 :: x :: t)[13]? = some x := rfl
theorem xs_13 {α : Type} {a0 a1 a2 a3 a4 a5 a6 a7 a8 a9 a10 a11 a12 x v : α} {t : List α} : (a0 :: a1 :: a2 :: a3 :: a4 :: a5 :: a6 :: a7 :: a8 :: a9 :: a10 :: a11 :: a12 :: x :: t).set 13 v = a0 :: a1 :: a2 :: a3 :: a4 :: a5 :: a6 :: a7 :: a8 :: a9 :: a10 :: a11 :: a12 :: v :: t := rfl
theorem xg_14 {α : Type} {a0 a1 a2 a3 a4 a5 a6 a7 a8 a9 a10 a11 a12 a13 x : α} {t : List α} : (a0 :: a1 :: a2 :: a3 :: a4 :: a5 :: a6 :: a7 :: a8 :: a9 :: a10 :: a11 :: a12 :: a13 :: x :: t)[14]? = some x := rfl
theorem xs_14 {α : Type} {a0 a1 a2 a3 a4 a5 a6 a7 a8 a9 a10 a11 a12 a13 x v : α} {t : List α} : (a0 :: a1 :: a2 :: a3 :: a4 :: a5 :: a6 :: a7 :: a8 :: a9 :: a10 :: a11 :: a12 :: a13 :: x :: t).set 14 v = a0 :: a1 :: a2 :: a3 :: a4 :: a5 :: a6 :: a7 :: a8 :: a9 :: a10 :: a11 :: a12 :: a13 :: v :: t := rfl
theorem xg_15 {α : Type} {a0 a1 a2 a3 a4 a5 a6 a7 a8 a9 a10 a11 a12 a13 a14 x : α} {t : List α} : (a0 :: a1 :: a2 :: a3 :: a4 :: a5 :: a6 :: a7 :: a8 :: a9 :: a10 :: a11 :: a12 :: a13 :: a14 :: x :: t)[15]? = some x := rfl
theorem xs_15 {α : Type} {a0 a1 a2 a3 a4 a5 a6 a7 a8 a9 a10 a11 a12 a13 a14 x v : α} {t : List α} : (a0 :: a1 :: a2 :: a3 :: a4 :: a5 :: a6 :: a7 :: a8 :: a9 :: a10 :: a11 :: a12 :: a13 :: a14 :: x :: t).set 15 v = a0 :: a1 :: a2 :: a3 :: a4 :: a5 :: a6 :: a7 :: a8 :: a9 :: a10 :: a11 :: a12 :: a13 :: a14 :: v :: t := rfl
theorem xg_16 {α : Type} {a0 a1 a2 a3 a4 a5 a6 a7 a8 a9 a10 a11 a12 a13 a14 a15 x : α} {t : List α} : (a0 :: a1 :: a2 :: a3 :: a4 :: a5 :: a6 :: a7 :: a8 :: a9 :: a10 :: a11 :: a12 :: a13 :: a14 :: a15 :: x :: t)[16]? = some x := rfl
theorem xs_16 {α : Type} {a0 a1 a2 a3 a4 a5 a6 a7 a8 a9 a10 a11 a12 a13 a14 a15 x v : α} {t : List α} : (a0 :: a1 :: a2 :: a3 :: a4 :: a5 :: a6 :: a7 :: a8 :: a9 :: a10 :: a11 :: a12 :: a13 :: a14 :: a15 :: x :: t).set 16 v = a0 :: a1 :: a2 :: a3 :: a4 :: a5 :: a6 :: a7 :: a8 :: a9 :: a10 :: a11 :: a12 :: a13 :: a14 :: a15 :: v :: t := rfl
theorem xg_17 {α : Type} {a0 a1 a2 a3 a4 a5 a6 a7 a8 a9 a10 a11 a12 a13 a14 a15 a16 x : α} {t : List α} : (a0 :: a1 :: a2 :: a3 :: a4 :: a5 :: a6 :: a7 :: a8 :: a9 :: a10 :: a11 :: a12 :: a13 :: a14 :: a15 :: a16 :: x :: t)[17]? = some x := rfl
theorem xs_17 {α : Type} {a0 a1 a2 a3 a4 a5 a6 a7 a8 a9 a10 a11 a12 a13 a14 a15 a16 x v : α} {t : List α} : (a0 :: a1 :: a2 :: a3 :: a4 :: a5 :: a6 :: a7 :: a8 :: a9 :: a10 :: a11 :: a12 :: a13 :: a14 :: a15 :: a16 :: x :: t).set 17 v = a0 :: a1 :: a2 :: a3 :: a4 :: a5 :: a6 :: a7 :: a8 :: a9 :: a10 :: a11 :: a12 :: a13 :: a14 :: a15 :: a16 :: v :: t := rfl
theorem xg_18 {α : Type} {a0 a1 a2 a3 a4 a5 a6 a7 a8 a9 a10 a11 a12 a13 a14 a15 a16 a17 x : α} {t : List α} : (a0 :: a1 :: a2 :: a3 :: a4 :: a5 :: a6 :: a7 :: a8 :: a9 :: a10 :: a11 :: a12 :: a13 :: a14 :: a15 :: a16 :: a17 :: x :: t)[18]? = some x := rfl
theorem xs_18 {α : Type} {a0 a1 a2 a3 a4 a5 a6 a7 a8 a9 a10 a11 a12 a13 a14 a15 a16 a17 x v : α} {t : List α} : (a0 :: a1 :: a2 :: a3 :: a4 :: a5 :: a6 :: a7 :: a8 :: a9 :: a10 :: a11 :: a12 :: a13 :: a14 :: a15 :: a16 :: a17 :: x :: t).set 18 v = a0 :: a1 :: a2 :: a3 :: a4 :: a5 :: a6 :: a7 :: a8 :: a9 :: a10 :: a11 :: a12 :: a13 :: a14 :: a15 :: a16 :: a17 :: v :: t := rfl
theorem xg_19 {α : Type} {a0 a1 a2 a3 a4 a5 a6 a7 a8 a9 a10 a11 a12 a13 a14 a15 a16 a17 a18 x : α} {t : List α} : (a0 :: a1 :: a2 :: a3 :: a4 :: a5 :: a6 :: a7 :: a8 :: a9 :: a10 :: a11 :: a12 :: a13 :: a14 :: a15 :: a16 :: a17 :: a18 :: x :: t)[19]? = some x := rfl
theorem xs_19 {α : Type} {a0 a1 a2 a3 a4 a5 a6 a7 a8 a9 a10 a11 a12 a13 a14 a15 a16 a17 a18 x v : α} {t : List α} : (a0 :: a1 :: a2 :: a3 :: a4 :: a5 :: a6 :: a7 :: a8 :: a9 :: a10 :: a11 :: a12 :: a13 :: a14 :: a15 :: a16 :: a17 :: a18 :: x :: t).set 19 v = a0 :: a1 :: a2 :: a3 :: a4 :: a5 :: a6 :: a7 :: a8 :: a9 :: a10 :: a11 :: a12 :: a13 :: a14 :: a15 :: a16 :: a17 :: a18 :: v :: t := rfl
theorem xg_20 {α : Type} {a0 a1 a2 a3 a4 a5 a6 a7 a8 a9 a10 a11 a12 a13 a14 a15 a16 a17 a18 a19 x : α} {t : List α} : (a0 :: a1 :: a2 :: a3 :: a4 :: a5 :: a6 :: a7 :: a8 :: a9 :: a10 :: a11 :: a12 :: a13 :: a14 :: a15 :: a16 :: a17 :: a18 :: a19 :: x :: t)[20]? = some x := rfl
theorem xs_20 {α : Type} {a0 a1 a2 a3 a4 a5 a6 a7 a8 a9 a10 a11 a12 a13 a14 a15 a16 a17 a18 a19 x v : α} {t : List α} : (a0 :: a1 :: a2 :: a3 :: a4 :: a5 :: a6 :: a7 :: a8 :: a9 :: a10 :: a11 :: a12 :: a13 :: a14 :: a15 :: a16 :: a17 :: a18 :: a19 :: x :: t).set 20 v = a0 :: a1 :: a2 :: a3 :: a4 :: a5 :: a6 :: a7 :: a8 :: a9 :: a10 :: a11 :: a12 :: a13 :: a14 :: a15 :: a16 :: a17 :: a18 :: a19 :: v :: t := rfl
/-! ===== contexts ===== -/
def cx (p : Program) (s : State) (m : MethodId) (args : Array Value) (meth : Method) (c : Code) (D : va_G) (X : Nat → Nat) (b0 : Nat) (own : String) (cc : ByteArray) (nL : Nat) (ret : Option FieldType) : Prop :=
  p.tables.exec = Jvm.exec ∧ c.code = cc ∧ c.maxLocals = nL ∧ s.vm.findClass own = some m.cls ∧ (∀ w ∈ lw_all, w.before args s = true) ∧ meth.locks = false ∧ meth.sig.returnType = ret ∧ kw D X b0 s s.heap
def lvo (ls : Array Slot) (nL : Nat) (lv : List (Option Value)) : Prop := ls.size = nL ∧ lv_wf ls ∧ lv.length = nL ∧ ∀ (i : Nat) (v : Value), lv[i]? = some (some v) → ls[i]? = some (.val v)
def gs (D : va_G) (b0 : Nat) (s : State) (G : gM) (H : Heap) (locs : List Loc) : Prop := gh D b0 G H ∧ va_S (bz b0) s.heap H locs
/-- the walk's goal over the ghost heap: bc cells and bs slots may still be made -/
def GW (p : Program) (l : Launch) (e : Env) (R : Room) (s : State) (m : MethodId) (args : Array Value) (below : List Frame) (meth : Method) (c : Code) (D : va_G) (b0 nL : Nat) (Q : State → Prop) (G : gM) (bc bs pc : Nat) (lv : List (Option Value)) (st : List Value) : Prop :=
  ∀ (H : Heap) (locs : List Loc) (ls : Array Slot) (cells slots : Nat), cells + bc ≤ R.cells → slots + bs ≤ R.slots → gs D b0 s G H locs → lvo ls nL lv → W p l e R s m args below meth c H locs cells slots Q (F0 m pc ls st)
def n2 : Option Value → Bool
  | some v => v.category != 2
  | none => true
/-- the locals as the kit has them -/
def lvl : Nat → List (Option Value) → List (Nat × Value)
  | _, [] => []
  | i, none :: t => lvl (i + 1) t
  | i, some v :: t => (i, v) :: lvl (i + 1) t
theorem lvl_mem : ∀ (t : List (Option Value)) (i : Nat) (q : Nat × Value), q ∈ lvl i t ↔ i ≤ q.1 ∧ t[q.1 - i]? = some (some q.2)
  | [], i, q => by simp [lvl]
  | none :: t, i, q => by
    rw [lvl, lvl_mem t (i + 1) q]
    constructor
    · rintro ⟨h1, h2⟩
      refine ⟨by omega, ?_⟩
      rw [show q.1 - i = (q.1 - (i + 1)) + 1 by omega, List.getElem?_cons_succ]
      exact h2
    · rintro ⟨h1, h2⟩
      by_cases hz : q.1 - i = 0
      · rw [hz] at h2; simp at h2
      · refine ⟨by omega, ?_⟩
        rw [show q.1 - i = (q.1 - (i + 1)) + 1 by omega, List.getElem?_cons_succ] at h2
        exact h2
  | some v :: t, i, q => by
    rw [lvl, List.mem_cons, lvl_mem t (i + 1) q]
    constructor
    · rintro (rfl | ⟨h1, h2⟩)
      · exact ⟨Nat.le_refl _, by simp⟩
      · refine ⟨by omega, ?_⟩
        rw [show q.1 - i = (q.1 - (i + 1)) + 1 by omega, List.getElem?_cons_succ]
        exact h2
    · rintro ⟨h1, h2⟩
      by_cases hz : q.1 - i = 0
      · rw [hz] at h2
        simp only [List.getElem?_cons_zero, Option.some.injEq] at h2
        left
        obtain ⟨a, b⟩ := q
        simp only at h1 h2 hz
        subst h2
        rw [show a = i by omega]
      · right
        refine ⟨by omega, ?_⟩
        rw [show q.1 - i = (q.1 - (i + 1)) + 1 by omega, List.getElem?_cons_succ] at h2
        exact h2
theorem lvo.has {ls : Array Slot} {nL : Nat} {lv : List (Option Value)} (h : lvo ls nL lv) : lv_has ls nL (lvl 0 lv) := ⟨h.1, h.2.1, fun q hq => h.2.2.2 _ _ (by have := ((lvl_mem lv 0 q).mp hq).2; simpa using this)⟩
theorem lvo.at {ls : Array Slot} {nL : Nat} {lv : List (Option Value)} (h : lvo ls nL lv) {i : Nat} {v : Value} (hi : lv[i]? = some (some v)) : ls[i]? = some (.val v) := h.2.2.2 i v hi
theorem lvo.of {ls : Array Slot} {nL : Nat} {lv : List (Option Value)} {l : List (Nat × Value)} (h : lv_has ls nL l) (hn : lv.length = nL) (hl : ∀ (i : Nat) (v : Value), lv[i]? = some (some v) → (i, v) ∈ l) : lvo ls nL lv := ⟨h.1, h.2.1, hn, fun i v hi => h.2.2 (i, v) (hl i v hi)⟩
/-- one-word store -/
theorem lvo_set1 {lv lv' : List (Option Value)} {i : Nat} {v : Value} (hs : lv.set i (some v) = lv') (hp : ∀ w, lv[i - 1]? = some (some w) → 0 < i → w.category ≠ 2) (j : Nat) (w : Value) (h : lv'[j]? = some (some w)) : (j, w) ∈ (i, v) :: (lvl 0 lv).filter (fun q => !(q.1 == i) && !(q.1 + 1 == i && q.2.category == 2)) := by
  subst hs
  by_cases hj : j = i
  · subst hj
    have hl : j < lv.length := by
      have h1 := (List.getElem?_eq_some_iff.mp h).1
      rwa [List.length_set] at h1
    rw [List.getElem?_set_self hl] at h
    cases h
    exact List.mem_cons_self
  · rw [List.getElem?_set_ne (Ne.symm hj)] at h
    refine List.mem_cons_of_mem _ (List.mem_filter.mpr ⟨(lvl_mem lv 0 (j, w)).mpr ⟨Nat.zero_le _, by simpa using h⟩, ?_⟩)
    simp only [Bool.and_eq_true, Bool.not_eq_true', beq_eq_false_iff_ne, Bool.and_eq_false_iff]
    refine ⟨hj, ?_⟩
    by_cases h1 : j + 1 = i
    · right
      have := hp w (by rw [show i - 1 = j by omega]; exact h) (by omega)
      simpa using this
    · left; exact h1
theorem n2p {lv : List (Option Value)} {i : Nat} {x : Option Value} (h : lv[i - 1]? = some x) (hx : n2 x = true) : ∀ w, lv[i - 1]? = some (some w) → 0 < i → w.category ≠ 2 := by
  intro w hw _ hc
  rw [h] at hw
  cases hw
  simp [n2, hc] at hx
/-- two-word store -/
theorem lvo_set2 {lv lv1 lv' : List (Option Value)} {i : Nat} {v : Value} (hs1 : lv.set i (some v) = lv1) (hs : lv1.set (i + 1) none = lv') (hp : ∀ w, lv[i - 1]? = some (some w) → 0 < i → w.category ≠ 2) (j : Nat) (w : Value) (h : lv'[j]? = some (some w)) : (j, w) ∈ (i, v) :: (lvl 0 lv).filter (fun q => !(q.1 == i) && (!(q.1 == i + 1) && !(q.1 + 1 == i && q.2.category == 2))) := by
  subst hs
  subst hs1
  have hj1 : j ≠ i + 1 := by
    intro z
    subst z
    have h1 := (List.getElem?_eq_some_iff.mp h).1
    rw [List.length_set] at h1
    rw [List.getElem?_set_self h1] at h
    cases h
  rw [List.getElem?_set_ne (Ne.symm hj1)] at h
  by_cases hj : j = i
  · subst hj
    have hl : j < lv.length := by
      have h1 := (List.getElem?_eq_some_iff.mp h).1
      rwa [List.length_set] at h1
    rw [List.getElem?_set_self hl] at h
    cases h
    exact List.mem_cons_self
  · rw [List.getElem?_set_ne (Ne.symm hj)] at h
    refine List.mem_cons_of_mem _ (List.mem_filter.mpr ⟨(lvl_mem lv 0 (j, w)).mpr ⟨Nat.zero_le _, by simpa using h⟩, ?_⟩)
    simp only [Bool.and_eq_true, Bool.not_eq_true', beq_eq_false_iff_ne, Bool.and_eq_false_iff]
    refine ⟨hj, hj1, ?_⟩
    by_cases h1 : j + 1 = i
    · right
      have := hp w (by rw [show i - 1 = j by omega]; exact h) (by omega)
      simpa using this
    · left; exact h1
theorem len_set {lv lv' : List (Option Value)} {nL i : Nat} {v : Option Value} (h : lv.length = nL) (hs : lv.set i v = lv') : lv'.length = nL := by rw [← hs, List.length_set]; exact h
section GWP
variable {p : Program} {l : Launch} {e : Env} {R : Room} {s : State} {m : MethodId} {args : Array Value} {below : List Frame} {meth : Method} {c : Code} {Q : State → Prop}
variable {D : va_G} {X : Nat → Nat} {b0 nL bc bs pc q : Nat} {own : String} {cc : ByteArray} {ret : Option FieldType} {G : gM} {lv lv' lv1 : List (Option Value)} {st : List Value}
theorem gw_iconst (hc : cx p s m args meth c D X b0 own cc nL ret) {n : Int} (d : decode cc pc = .ok (.iconst n, 1)) (hq : pc + 1 = q)  (k : GW p l e R s m args below meth c D b0 nL Q G bc bs q lv (.int (iI n) :: st)) : GW p l e R s m args below meth c D b0 nL Q G bc bs pc lv st := by
  subst hq
  intro H locs ls cells slots h1 h2 hg hl
  exact lv_iconst hc.1 hc.2.1 d rfl (k H locs ls cells slots h1 h2 hg hl)
theorem gw_bipush (hc : cx p s m args meth c D X b0 own cc nL ret) {n : Int} (d : decode cc pc = .ok (.bipush n, 2)) (hq : pc + 2 = q) (hn : -128 ≤ n ∧ n < 128) (k : GW p l e R s m args below meth c D b0 nL Q G bc bs q lv (.int (iI n) :: st)) : GW p l e R s m args below meth c D b0 nL Q G bc bs pc lv st := by
  subst hq
  intro H locs ls cells slots h1 h2 hg hl
  exact lv_bipush hc.1 hc.2.1 d (iI_bip hn.1 hn.2) (k H locs ls cells slots h1 h2 hg hl)
theorem gw_sipush (hc : cx p s m args meth c D X b0 own cc nL ret) {n : Int} (d : decode cc pc = .ok (.sipush n, 3)) (hq : pc + 3 = q) (hn : -32768 ≤ n ∧ n < 32768) (k : GW p l e R s m args below meth c D b0 nL Q G bc bs q lv (.int (iI n) :: st)) : GW p l e R s m args below meth c D b0 nL Q G bc bs pc lv st := by
  subst hq
  intro H locs ls cells slots h1 h2 hg hl
  exact lv_sipush hc.1 hc.2.1 d (iI_sip hn.1 hn.2) (k H locs ls cells slots h1 h2 hg hl)
theorem gw_lconst (hc : cx p s m args meth c D X b0 own cc nL ret) {n : Fin 2} {v : Int} (d : decode cc pc = .ok (.lconst n, 1)) (hq : pc + 1 = q) (hv : ((n : Nat) : Int) = v) (k : GW p l e R s m args below meth c D b0 nL Q G bc bs q lv (.long (jI v) :: st)) : GW p l e R s m args below meth c D b0 nL Q G bc bs pc lv st := by
  subst hq
  intro H locs ls cells slots h1 h2 hg hl
  subst hv; exact lv_lconst hc.1 hc.2.1 d jI_nat (k H locs ls cells slots h1 h2 hg hl)
theorem gw_ldc (hc : cx p s m args meth c D X b0 own cc nL ret) {index : Nat} {v : Int} {c0 : Int32} (d : decode cc pc = .ok (.ldc index, 2)) (hq : pc + 2 = q) (hw : Cond.constant own index c0 ∈ lw_all) (hv : c0 = iI v) (k : GW p l e R s m args below meth c D b0 nL Q G bc bs q lv (.int (iI v) :: st)) : GW p l e R s m args below meth c D b0 nL Q G bc bs pc lv st := by
  subst hq
  intro H locs ls cells slots h1 h2 hg hl
  subst hv; exact lv_ldc hc.1 hc.2.1 hc.2.2.2.1 (hc.2.2.2.2.1 _ hw) d (k H locs ls cells slots h1 h2 hg hl)
theorem gw_ldcw (hc : cx p s m args meth c D X b0 own cc nL ret) {index : Nat} {v : Int} {c0 : Int32} (d : decode cc pc = .ok (.ldc_w index, 3)) (hq : pc + 3 = q) (hw : Cond.constant own index c0 ∈ lw_all) (hv : c0 = iI v) (k : GW p l e R s m args below meth c D b0 nL Q G bc bs q lv (.int (iI v) :: st)) : GW p l e R s m args below meth c D b0 nL Q G bc bs pc lv st := by
  subst hq
  intro H locs ls cells slots h1 h2 hg hl
  subst hv; exact lv_ldcw hc.1 hc.2.1 hc.2.2.2.1 (hc.2.2.2.2.1 _ hw) d (k H locs ls cells slots h1 h2 hg hl)
theorem gw_ldc2 (hc : cx p s m args meth c D X b0 own cc nL ret) {index : Nat} {v : Int} {c0 : Int64} (d : decode cc pc = .ok (.ldc2_w index, 3)) (hq : pc + 3 = q) (hw : Cond.constantLong own index c0 ∈ lw_all) (hv : c0 = jI v) (k : GW p l e R s m args below meth c D b0 nL Q G bc bs q lv (.long (jI v) :: st)) : GW p l e R s m args below meth c D b0 nL Q G bc bs pc lv st := by
  subst hq
  intro H locs ls cells slots h1 h2 hg hl
  subst hv; exact lv_ldc2 hc.1 hc.2.1 hc.2.2.2.1 (hc.2.2.2.2.1 _ hw) d (k H locs ls cells slots h1 h2 hg hl)
theorem gw_iload_n (hc : cx p s m args meth c D X b0 own cc nL ret) {k0 : Fin 4} {i : Nat} {x : Int32} (d : decode cc pc = .ok (.iload_n k0, 1)) (hq : pc + 1 = q) (hi : (k0 : Nat) = i) (hv : lv[i]? = some (some (.int x))) (k : GW p l e R s m args below meth c D b0 nL Q G bc bs q lv (.int x :: st)) : GW p l e R s m args below meth c D b0 nL Q G bc bs pc lv st := by
  subst hq
  intro H locs ls cells slots h1 h2 hg hl
  exact lv_iload_n hc.1 hc.2.1 d hi (hl.at hv) (k H locs ls cells slots h1 h2 hg hl)
theorem gw_iload (hc : cx p s m args meth c D X b0 own cc nL ret) {i : Nat} {x : Int32} (d : decode cc pc = .ok (.iload i, 2)) (hq : pc + 2 = q) (hv : lv[i]? = some (some (.int x))) (k : GW p l e R s m args below meth c D b0 nL Q G bc bs q lv (.int x :: st)) : GW p l e R s m args below meth c D b0 nL Q G bc bs pc lv st := by
  subst hq
  intro H locs ls cells slots h1 h2 hg hl
  exact lv_iload hc.1 hc.2.1 d (hl.at hv) (k H locs ls cells slots h1 h2 hg hl)
theorem gw_istore_n (hc : cx p s m args meth c D X b0 own cc nL ret) {k0 : Fin 4} {i : Nat} {x : Int32} (d : decode cc pc = .ok (.istore_n k0, 1)) (hq : pc + 1 = q) (hi : (k0 : Nat) = i) (hs : lv.set i (some (.int x)) = lv') (hn : i < nL) (hp : ∀ w, lv[i - 1]? = some (some w) → 0 < i → w.category ≠ 2) (k : GW p l e R s m args below meth c D b0 nL Q G bc bs q lv' st) : GW p l e R s m args below meth c D b0 nL Q G bc bs pc lv (.int x :: st) := by
  subst hq
  intro H locs ls cells slots h1 h2 hg hl
  exact lv_istore_n hc.1 hc.2.1 d hi hl.has hn rfl (fun ls2 hl2 => k H locs ls2 cells slots h1 h2 hg (lvo.of hl2 (len_set hl.2.2.1 hs) (lvo_set1 hs hp)))
theorem gw_istore (hc : cx p s m args meth c D X b0 own cc nL ret) {i : Nat} {x : Int32} (d : decode cc pc = .ok (.istore i, 2)) (hq : pc + 2 = q) (hs : lv.set i (some (.int x)) = lv') (hn : i < nL) (hp : ∀ w, lv[i - 1]? = some (some w) → 0 < i → w.category ≠ 2) (k : GW p l e R s m args below meth c D b0 nL Q G bc bs q lv' st) : GW p l e R s m args below meth c D b0 nL Q G bc bs pc lv (.int x :: st) := by
  subst hq
  intro H locs ls cells slots h1 h2 hg hl
  exact lv_istore hc.1 hc.2.1 d hl.has hn rfl (fun ls2 hl2 => k H locs ls2 cells slots h1 h2 hg (lvo.of hl2 (len_set hl.2.2.1 hs) (lvo_set1 hs hp)))
theorem gw_lload_n (hc : cx p s m args meth c D X b0 own cc nL ret) {k0 : Fin 4} {i : Nat} {x : Int64} (d : decode cc pc = .ok (.lload_n k0, 1)) (hq : pc + 1 = q) (hi : (k0 : Nat) = i) (hv : lv[i]? = some (some (.long x))) (k : GW p l e R s m args below meth c D b0 nL Q G bc bs q lv (.long x :: st)) : GW p l e R s m args below meth c D b0 nL Q G bc bs pc lv st := by
  subst hq
  intro H locs ls cells slots h1 h2 hg hl
  exact lv_lload_n hc.1 hc.2.1 d hi (hl.at hv) (k H locs ls cells slots h1 h2 hg hl)
theorem gw_lload (hc : cx p s m args meth c D X b0 own cc nL ret) {i : Nat} {x : Int64} (d : decode cc pc = .ok (.lload i, 2)) (hq : pc + 2 = q) (hv : lv[i]? = some (some (.long x))) (k : GW p l e R s m args below meth c D b0 nL Q G bc bs q lv (.long x :: st)) : GW p l e R s m args below meth c D b0 nL Q G bc bs pc lv st := by
  subst hq
  intro H locs ls cells slots h1 h2 hg hl
  exact lv_lload hc.1 hc.2.1 d (hl.at hv) (k H locs ls cells slots h1 h2 hg hl)
theorem gw_lstore_n (hc : cx p s m args meth c D X b0 own cc nL ret) {k0 : Fin 4} {i : Nat} {x : Int64} (d : decode cc pc = .ok (.lstore_n k0, 1)) (hq : pc + 1 = q) (hi : (k0 : Nat) = i) (hs1 : lv.set i (some (.long x)) = lv1) (hs : lv1.set (i + 1) none = lv') (hn : i + 1 < nL) (hp : ∀ w, lv[i - 1]? = some (some w) → 0 < i → w.category ≠ 2) (k : GW p l e R s m args below meth c D b0 nL Q G bc bs q lv' st) : GW p l e R s m args below meth c D b0 nL Q G bc bs pc lv (.long x :: st) := by
  subst hq
  intro H locs ls cells slots h1 h2 hg hl
  exact lv_lstore_n hc.1 hc.2.1 d hi hl.has hn rfl (fun ls2 hl2 => k H locs ls2 cells slots h1 h2 hg (lvo.of hl2 (len_set (len_set hl.2.2.1 hs1) hs) (lvo_set2 hs1 hs hp)))
theorem gw_lstore (hc : cx p s m args meth c D X b0 own cc nL ret) {i : Nat} {x : Int64} (d : decode cc pc = .ok (.lstore i, 2)) (hq : pc + 2 = q) (hs1 : lv.set i (some (.long x)) = lv1) (hs : lv1.set (i + 1) none = lv') (hn : i + 1 < nL) (hp : ∀ w, lv[i - 1]? = some (some w) → 0 < i → w.category ≠ 2) (k : GW p l e R s m args below meth c D b0 nL Q G bc bs q lv' st) : GW p l e R s m args below meth c D b0 nL Q G bc bs pc lv (.long x :: st) := by
  subst hq
  intro H locs ls cells slots h1 h2 hg hl
  exact lv_lstore hc.1 hc.2.1 d hl.has hn rfl (fun ls2 hl2 => k H locs ls2 cells slots h1 h2 hg (lvo.of hl2 (len_set (len_set hl.2.2.1 hs1) hs) (lvo_set2 hs1 hs hp)))
theorem gw_aload_n (hc : cx p s m args meth c D X b0 own cc nL ret) {k0 : Fin 4} {i : Nat} {x : Nat} (d : decode cc pc = .ok (.aload_n k0, 1)) (hq : pc + 1 = q) (hi : (k0 : Nat) = i) (hv : lv[i]? = some (some (.ref x))) (k : GW p l e R s m args below meth c D b0 nL Q G bc bs q lv (.ref x :: st)) : GW p l e R s m args below meth c D b0 nL Q G bc bs pc lv st := by
  subst hq
  intro H locs ls cells slots h1 h2 hg hl
  exact lv_aload_n hc.1 hc.2.1 d hi (hl.at hv) (k H locs ls cells slots h1 h2 hg hl)
theorem gw_aload (hc : cx p s m args meth c D X b0 own cc nL ret) {i : Nat} {x : Nat} (d : decode cc pc = .ok (.aload i, 2)) (hq : pc + 2 = q) (hv : lv[i]? = some (some (.ref x))) (k : GW p l e R s m args below meth c D b0 nL Q G bc bs q lv (.ref x :: st)) : GW p l e R s m args below meth c D b0 nL Q G bc bs pc lv st := by
  subst hq
  intro H locs ls cells slots h1 h2 hg hl
  exact lv_aload hc.1 hc.2.1 d (hl.at hv) (k H locs ls cells slots h1 h2 hg hl)
theorem gw_astore_n (hc : cx p s m args meth c D X b0 own cc nL ret) {k0 : Fin 4} {i : Nat} {x : Nat} (d : decode cc pc = .ok (.astore_n k0, 1)) (hq : pc + 1 = q) (hi : (k0 : Nat) = i) (hs : lv.set i (some (.ref x)) = lv') (hn : i < nL) (hp : ∀ w, lv[i - 1]? = some (some w) → 0 < i → w.category ≠ 2) (k : GW p l e R s m args below meth c D b0 nL Q G bc bs q lv' st) : GW p l e R s m args below meth c D b0 nL Q G bc bs pc lv (.ref x :: st) := by
  subst hq
  intro H locs ls cells slots h1 h2 hg hl
  exact lv_astore_n hc.1 hc.2.1 d hi hl.has hn rfl (fun ls2 hl2 => k H locs ls2 cells slots h1 h2 hg (lvo.of hl2 (len_set hl.2.2.1 hs) (lvo_set1 hs hp)))
theorem gw_astore (hc : cx p s m args meth c D X b0 own cc nL ret) {i : Nat} {x : Nat} (d : decode cc pc = .ok (.astore i, 2)) (hq : pc + 2 = q) (hs : lv.set i (some (.ref x)) = lv') (hn : i < nL) (hp : ∀ w, lv[i - 1]? = some (some w) → 0 < i → w.category ≠ 2) (k : GW p l e R s m args below meth c D b0 nL Q G bc bs q lv' st) : GW p l e R s m args below meth c D b0 nL Q G bc bs pc lv (.ref x :: st) := by
  subst hq
  intro H locs ls cells slots h1 h2 hg hl
  exact lv_astore hc.1 hc.2.1 d hl.has hn rfl (fun ls2 hl2 => k H locs ls2 cells slots h1 h2 hg (lvo.of hl2 (len_set hl.2.2.1 hs) (lvo_set1 hs hp)))
theorem gw_aloadN_n (hc : cx p s m args meth c D X b0 own cc nL ret) {k0 : Fin 4} {i : Nat} (d : decode cc pc = .ok (.aload_n k0, 1)) (hq : pc + 1 = q) (hi : (k0 : Nat) = i) (hv : lv[i]? = some (some .null)) (k : GW p l e R s m args below meth c D b0 nL Q G bc bs q lv (.null :: st)) : GW p l e R s m args below meth c D b0 nL Q G bc bs pc lv st := by
  subst hq
  intro H locs ls cells slots h1 h2 hg hl
  exact lv_aload_nN hc.1 hc.2.1 d hi (hl.at hv) (k H locs ls cells slots h1 h2 hg hl)
theorem gw_aloadN (hc : cx p s m args meth c D X b0 own cc nL ret) {i : Nat} (d : decode cc pc = .ok (.aload i, 2)) (hq : pc + 2 = q) (hv : lv[i]? = some (some .null)) (k : GW p l e R s m args below meth c D b0 nL Q G bc bs q lv (.null :: st)) : GW p l e R s m args below meth c D b0 nL Q G bc bs pc lv st := by
  subst hq
  intro H locs ls cells slots h1 h2 hg hl
  exact lv_aloadN hc.1 hc.2.1 d (hl.at hv) (k H locs ls cells slots h1 h2 hg hl)
theorem gw_iadd (hc : cx p s m args meth c D X b0 own cc nL ret) {a b : Int} (d : decode cc pc = .ok (.iadd, 1)) (hq : pc + 1 = q)  (k : GW p l e R s m args below meth c D b0 nL Q G bc bs q lv (.int (iI (a + b)) :: st)) : GW p l e R s m args below meth c D b0 nL Q G bc bs pc lv (.int (iI b) :: .int (iI a) :: st) := by
  subst hq
  intro H locs ls cells slots h1 h2 hg hl
  exact lv_iadd hc.1 hc.2.1 d (by rw [← iI_add]; exact k H locs ls cells slots h1 h2 hg hl)
theorem gw_ladd (hc : cx p s m args meth c D X b0 own cc nL ret) {a b : Int} (d : decode cc pc = .ok (.ladd, 1)) (hq : pc + 1 = q)  (k : GW p l e R s m args below meth c D b0 nL Q G bc bs q lv (.long (jI (a + b)) :: st)) : GW p l e R s m args below meth c D b0 nL Q G bc bs pc lv (.long (jI b) :: .long (jI a) :: st) := by
  subst hq
  intro H locs ls cells slots h1 h2 hg hl
  exact lv_ladd hc.1 hc.2.1 d (by rw [← jI_add]; exact k H locs ls cells slots h1 h2 hg hl)
theorem gw_isub (hc : cx p s m args meth c D X b0 own cc nL ret) {a b : Int} (d : decode cc pc = .ok (.isub, 1)) (hq : pc + 1 = q)  (k : GW p l e R s m args below meth c D b0 nL Q G bc bs q lv (.int (iI (a - b)) :: st)) : GW p l e R s m args below meth c D b0 nL Q G bc bs pc lv (.int (iI b) :: .int (iI a) :: st) := by
  subst hq
  intro H locs ls cells slots h1 h2 hg hl
  exact lv_isub hc.1 hc.2.1 d (by rw [← iI_sub]; exact k H locs ls cells slots h1 h2 hg hl)
theorem gw_lsub (hc : cx p s m args meth c D X b0 own cc nL ret) {a b : Int} (d : decode cc pc = .ok (.lsub, 1)) (hq : pc + 1 = q)  (k : GW p l e R s m args below meth c D b0 nL Q G bc bs q lv (.long (jI (a - b)) :: st)) : GW p l e R s m args below meth c D b0 nL Q G bc bs pc lv (.long (jI b) :: .long (jI a) :: st) := by
  subst hq
  intro H locs ls cells slots h1 h2 hg hl
  exact lv_lsub hc.1 hc.2.1 d (by rw [← jI_sub]; exact k H locs ls cells slots h1 h2 hg hl)
theorem gw_imul (hc : cx p s m args meth c D X b0 own cc nL ret) {a b : Int} (d : decode cc pc = .ok (.imul, 1)) (hq : pc + 1 = q)  (k : GW p l e R s m args below meth c D b0 nL Q G bc bs q lv (.int (iI (a * b)) :: st)) : GW p l e R s m args below meth c D b0 nL Q G bc bs pc lv (.int (iI b) :: .int (iI a) :: st) := by
  subst hq
  intro H locs ls cells slots h1 h2 hg hl
  exact lv_imul hc.1 hc.2.1 d (by rw [← iI_mul]; exact k H locs ls cells slots h1 h2 hg hl)
theorem gw_lmul (hc : cx p s m args meth c D X b0 own cc nL ret) {a b : Int} (d : decode cc pc = .ok (.lmul, 1)) (hq : pc + 1 = q)  (k : GW p l e R s m args below meth c D b0 nL Q G bc bs q lv (.long (jI (a * b)) :: st)) : GW p l e R s m args below meth c D b0 nL Q G bc bs pc lv (.long (jI b) :: .long (jI a) :: st) := by
  subst hq
  intro H locs ls cells slots h1 h2 hg hl
  exact lv_lmul hc.1 hc.2.1 d (by rw [← jI_mul]; exact k H locs ls cells slots h1 h2 hg hl)
theorem gw_ineg (hc : cx p s m args meth c D X b0 own cc nL ret) {a : Int} (d : decode cc pc = .ok (.ineg, 1)) (hq : pc + 1 = q)  (k : GW p l e R s m args below meth c D b0 nL Q G bc bs q lv (.int (iI (-a)) :: st)) : GW p l e R s m args below meth c D b0 nL Q G bc bs pc lv (.int (iI a) :: st) := by
  subst hq
  intro H locs ls cells slots h1 h2 hg hl
  exact lv_ineg hc.1 hc.2.1 d (by rw [← iI_neg]; exact k H locs ls cells slots h1 h2 hg hl)
theorem gw_idiv (hc : cx p s m args meth c D X b0 own cc nL ret) {a b : Int} (d : decode cc pc = .ok (.idiv, 1)) (hq : pc + 1 = q) (h0 : 0 ≤ a ∧ a < 2147483648) (hb0 : 0 < b ∧ b < 2147483648) (k : GW p l e R s m args below meth c D b0 nL Q G bc bs q lv (.int (iI (a / b)) :: st)) : GW p l e R s m args below meth c D b0 nL Q G bc bs pc lv (.int (iI b) :: .int (iI a) :: st) := by
  subst hq
  intro H locs ls cells slots h1 h2 hg hl
  exact lv_idiv hc.1 hc.2.1 d (fun z => by have := congrArg Int32.toInt z; rw [iI_toInt ⟨by omega, hb0.2⟩] at this; have h3 : b = 0 := this; omega) (by rw [iI_div h0.1 h0.2 hb0.1 hb0.2]; exact k H locs ls cells slots h1 h2 hg hl)
theorem gw_irem (hc : cx p s m args meth c D X b0 own cc nL ret) {a b : Int} (d : decode cc pc = .ok (.irem, 1)) (hq : pc + 1 = q) (h0 : 0 ≤ a ∧ a < 2147483648) (hb0 : 0 < b ∧ b < 2147483648) (k : GW p l e R s m args below meth c D b0 nL Q G bc bs q lv (.int (iI (a % b)) :: st)) : GW p l e R s m args below meth c D b0 nL Q G bc bs pc lv (.int (iI b) :: .int (iI a) :: st) := by
  subst hq
  intro H locs ls cells slots h1 h2 hg hl
  exact lv_irem hc.1 hc.2.1 d (fun z => by have := congrArg Int32.toInt z; rw [iI_toInt ⟨by omega, hb0.2⟩] at this; have h3 : b = 0 := this; omega) (by rw [iI_rem h0.1 h0.2 hb0.1 hb0.2]; exact k H locs ls cells slots h1 h2 hg hl)
theorem gw_ldiv (hc : cx p s m args meth c D X b0 own cc nL ret) {a b : Int} (d : decode cc pc = .ok (.ldiv, 1)) (hq : pc + 1 = q) (h0 : 0 ≤ a ∧ a < 9223372036854775808) (hb0 : 0 < b ∧ b < 9223372036854775808) (k : GW p l e R s m args below meth c D b0 nL Q G bc bs q lv (.long (jI (a / b)) :: st)) : GW p l e R s m args below meth c D b0 nL Q G bc bs pc lv (.long (jI b) :: .long (jI a) :: st) := by
  subst hq
  intro H locs ls cells slots h1 h2 hg hl
  exact lv_ldiv hc.1 hc.2.1 d (fun z => by have := congrArg Int64.toInt z; rw [jI_toInt ⟨by omega, hb0.2⟩] at this; have h3 : b = 0 := this; omega) (by rw [jI_div h0.1 h0.2 hb0.1 hb0.2]; exact k H locs ls cells slots h1 h2 hg hl)
theorem gw_lrem (hc : cx p s m args meth c D X b0 own cc nL ret) {a b : Int} (d : decode cc pc = .ok (.lrem, 1)) (hq : pc + 1 = q) (h0 : 0 ≤ a ∧ a < 9223372036854775808) (hb0 : 0 < b ∧ b < 9223372036854775808) (k : GW p l e R s m args below meth c D b0 nL Q G bc bs q lv (.long (jI (a % b)) :: st)) : GW p l e R s m args below meth c D b0 nL Q G bc bs pc lv (.long (jI b) :: .long (jI a) :: st) := by
  subst hq
  intro H locs ls cells slots h1 h2 hg hl
  exact lv_lrem hc.1 hc.2.1 d (fun z => by have := congrArg Int64.toInt z; rw [jI_toInt ⟨by omega, hb0.2⟩] at this; have h3 : b = 0 := this; omega) (by rw [jI_rem h0.1 h0.2 hb0.1 hb0.2]; exact k H locs ls cells slots h1 h2 hg hl)
theorem gw_iand (hc : cx p s m args meth c D X b0 own cc nL ret) {x y : Int32} (d : decode cc pc = .ok (.iand, 1)) (hq : pc + 1 = q)  (k : GW p l e R s m args below meth c D b0 nL Q G bc bs q lv (.int (x &&& y) :: st)) : GW p l e R s m args below meth c D b0 nL Q G bc bs pc lv (.int y :: .int x :: st) := by
  subst hq
  intro H locs ls cells slots h1 h2 hg hl
  exact lv_iand hc.1 hc.2.1 d (k H locs ls cells slots h1 h2 hg hl)
theorem gw_land (hc : cx p s m args meth c D X b0 own cc nL ret) {x y : Int64} (d : decode cc pc = .ok (.land, 1)) (hq : pc + 1 = q)  (k : GW p l e R s m args below meth c D b0 nL Q G bc bs q lv (.long (x &&& y) :: st)) : GW p l e R s m args below meth c D b0 nL Q G bc bs pc lv (.long y :: .long x :: st) := by
  subst hq
  intro H locs ls cells slots h1 h2 hg hl
  exact lv_land hc.1 hc.2.1 d (k H locs ls cells slots h1 h2 hg hl)
theorem gw_ior (hc : cx p s m args meth c D X b0 own cc nL ret) {x y : Int32} (d : decode cc pc = .ok (.ior, 1)) (hq : pc + 1 = q)  (k : GW p l e R s m args below meth c D b0 nL Q G bc bs q lv (.int (x ||| y) :: st)) : GW p l e R s m args below meth c D b0 nL Q G bc bs pc lv (.int y :: .int x :: st) := by
  subst hq
  intro H locs ls cells slots h1 h2 hg hl
  exact lv_ior hc.1 hc.2.1 d (k H locs ls cells slots h1 h2 hg hl)
theorem gw_lor (hc : cx p s m args meth c D X b0 own cc nL ret) {x y : Int64} (d : decode cc pc = .ok (.lor, 1)) (hq : pc + 1 = q)  (k : GW p l e R s m args below meth c D b0 nL Q G bc bs q lv (.long (x ||| y) :: st)) : GW p l e R s m args below meth c D b0 nL Q G bc bs pc lv (.long y :: .long x :: st) := by
  subst hq
  intro H locs ls cells slots h1 h2 hg hl
  exact lv_lor hc.1 hc.2.1 d (k H locs ls cells slots h1 h2 hg hl)
theorem gw_ishl (hc : cx p s m args meth c D X b0 own cc nL ret) {x y : Int32} (d : decode cc pc = .ok (.ishl, 1)) (hq : pc + 1 = q)  (k : GW p l e R s m args below meth c D b0 nL Q G bc bs q lv (.int (x <<< (y &&& 31)) :: st)) : GW p l e R s m args below meth c D b0 nL Q G bc bs pc lv (.int y :: .int x :: st) := by
  subst hq
  intro H locs ls cells slots h1 h2 hg hl
  exact lv_ishl hc.1 hc.2.1 d (k H locs ls cells slots h1 h2 hg hl)
theorem gw_ishr (hc : cx p s m args meth c D X b0 own cc nL ret) {x y : Int32} (d : decode cc pc = .ok (.ishr, 1)) (hq : pc + 1 = q)  (k : GW p l e R s m args below meth c D b0 nL Q G bc bs q lv (.int (x >>> (y &&& 31)) :: st)) : GW p l e R s m args below meth c D b0 nL Q G bc bs pc lv (.int y :: .int x :: st) := by
  subst hq
  intro H locs ls cells slots h1 h2 hg hl
  exact lv_ishr hc.1 hc.2.1 d (k H locs ls cells slots h1 h2 hg hl)
theorem gw_lshl (hc : cx p s m args meth c D X b0 own cc nL ret) {x : Int64} {y : Int32} (d : decode cc pc = .ok (.lshl, 1)) (hq : pc + 1 = q)  (k : GW p l e R s m args below meth c D b0 nL Q G bc bs q lv (.long (x <<< (y.toInt64 &&& 63)) :: st)) : GW p l e R s m args below meth c D b0 nL Q G bc bs pc lv (.int y :: .long x :: st) := by
  subst hq
  intro H locs ls cells slots h1 h2 hg hl
  exact lv_lshl hc.1 hc.2.1 d rfl (k H locs ls cells slots h1 h2 hg hl)
theorem gw_lshr (hc : cx p s m args meth c D X b0 own cc nL ret) {x : Int64} {y : Int32} (d : decode cc pc = .ok (.lshr, 1)) (hq : pc + 1 = q)  (k : GW p l e R s m args below meth c D b0 nL Q G bc bs q lv (.long (x >>> (y.toInt64 &&& 63)) :: st)) : GW p l e R s m args below meth c D b0 nL Q G bc bs pc lv (.int y :: .long x :: st) := by
  subst hq
  intro H locs ls cells slots h1 h2 hg hl
  exact lv_lshr hc.1 hc.2.1 d rfl (k H locs ls cells slots h1 h2 hg hl)
theorem gw_lushr (hc : cx p s m args meth c D X b0 own cc nL ret) {x v : Int64} {y : Int32} (d : decode cc pc = .ok (.lushr, 1)) (hq : pc + 1 = q) (hv : (x.toUInt64 >>> (y.toInt64.toUInt64 &&& Int64.toUInt64 63)).toInt64 = v) (k : GW p l e R s m args below meth c D b0 nL Q G bc bs q lv (.long v :: st)) : GW p l e R s m args below meth c D b0 nL Q G bc bs pc lv (.int y :: .long x :: st) := by
  subst hq
  intro H locs ls cells slots h1 h2 hg hl
  exact lv_lushr hc.1 hc.2.1 d hv (k H locs ls cells slots h1 h2 hg hl)
theorem gw_i2l (hc : cx p s m args meth c D X b0 own cc nL ret) {a : Int} (d : decode cc pc = .ok (.i2l, 1)) (hq : pc + 1 = q) (ha : rI a) (k : GW p l e R s m args below meth c D b0 nL Q G bc bs q lv (.long (jI a) :: st)) : GW p l e R s m args below meth c D b0 nL Q G bc bs pc lv (.int (iI a) :: st) := by
  subst hq
  intro H locs ls cells slots h1 h2 hg hl
  exact lv_i2l hc.1 hc.2.1 d (iI_j ha) (k H locs ls cells slots h1 h2 hg hl)
theorem gw_l2i (hc : cx p s m args meth c D X b0 own cc nL ret) {a : Int} (d : decode cc pc = .ok (.l2i, 1)) (hq : pc + 1 = q)  (k : GW p l e R s m args below meth c D b0 nL Q G bc bs q lv (.int (iI a) :: st)) : GW p l e R s m args below meth c D b0 nL Q G bc bs pc lv (.long (jI a) :: st) := by
  subst hq
  intro H locs ls cells slots h1 h2 hg hl
  exact lv_l2i hc.1 hc.2.1 d (jI_i a) (k H locs ls cells slots h1 h2 hg hl)
theorem gw_l2iX (hc : cx p s m args meth c D X b0 own cc nL ret) {x : Int64} (d : decode cc pc = .ok (.l2i, 1)) (hq : pc + 1 = q)  (k : GW p l e R s m args below meth c D b0 nL Q G bc bs q lv (.int x.toInt32 :: st)) : GW p l e R s m args below meth c D b0 nL Q G bc bs pc lv (.long x :: st) := by
  subst hq
  intro H locs ls cells slots h1 h2 hg hl
  exact lv_l2i hc.1 hc.2.1 d rfl (k H locs ls cells slots h1 h2 hg hl)
theorem gw_i2b (hc : cx p s m args meth c D X b0 own cc nL ret) {a : Int} (d : decode cc pc = .ok (.i2b, 1)) (hq : pc + 1 = q) (ha : -128 ≤ a ∧ a < 128) (k : GW p l e R s m args below meth c D b0 nL Q G bc bs q lv (.int (iI a) :: st)) : GW p l e R s m args below meth c D b0 nL Q G bc bs pc lv (.int (iI a) :: st) := by
  subst hq
  intro H locs ls cells slots h1 h2 hg hl
  exact lv_i2b hc.1 hc.2.1 d (iI_i2b ha.1 ha.2) (k H locs ls cells slots h1 h2 hg hl)
theorem gw_i2c (hc : cx p s m args meth c D X b0 own cc nL ret) {a : Int} (d : decode cc pc = .ok (.i2c, 1)) (hq : pc + 1 = q) (ha : 0 ≤ a ∧ a < 65536) (k : GW p l e R s m args below meth c D b0 nL Q G bc bs q lv (.int (iI a) :: st)) : GW p l e R s m args below meth c D b0 nL Q G bc bs pc lv (.int (iI a) :: st) := by
  subst hq
  intro H locs ls cells slots h1 h2 hg hl
  exact lv_i2c hc.1 hc.2.1 d (iI_i2c ha.1 ha.2) (k H locs ls cells slots h1 h2 hg hl)
theorem gw_i2cX (hc : cx p s m args meth c D X b0 own cc nL ret) {x v : Int32} (d : decode cc pc = .ok (.i2c, 1)) (hq : pc + 1 = q) (hv : (x.toUInt32 % 65536).toInt32 = v) (k : GW p l e R s m args below meth c D b0 nL Q G bc bs q lv (.int v :: st)) : GW p l e R s m args below meth c D b0 nL Q G bc bs pc lv (.int x :: st) := by
  subst hq
  intro H locs ls cells slots h1 h2 hg hl
  exact lv_i2c hc.1 hc.2.1 d hv (k H locs ls cells slots h1 h2 hg hl)
theorem gw_lcmp (hc : cx p s m args meth c D X b0 own cc nL ret) {a b : Int} (d : decode cc pc = .ok (.lcmp, 1)) (hq : pc + 1 = q) (ha : rJ a) (hb : rJ b) (k : GW p l e R s m args below meth c D b0 nL Q G bc bs q lv (.int (iI (lC a b)) :: st)) : GW p l e R s m args below meth c D b0 nL Q G bc bs pc lv (.long (jI b) :: .long (jI a) :: st) := by
  subst hq
  intro H locs ls cells slots h1 h2 hg hl
  exact W.lcmp hc.1 hc.2.1 d (by rw [lC_cmp ha hb]; exact k H locs ls cells slots h1 h2 hg hl)
theorem gw_lcmpX (hc : cx p s m args meth c D X b0 own cc nL ret) {x y : Int64} (d : decode cc pc = .ok (.lcmp, 1)) (hq : pc + 1 = q)  (k : GW p l e R s m args below meth c D b0 nL Q G bc bs q lv (.int (lg_cmp x y) :: st)) : GW p l e R s m args below meth c D b0 nL Q G bc bs pc lv (.long y :: .long x :: st) := by
  subst hq
  intro H locs ls cells slots h1 h2 hg hl
  exact W.lcmp hc.1 hc.2.1 d (k H locs ls cells slots h1 h2 hg hl)
theorem gw_null (hc : cx p s m args meth c D X b0 own cc nL ret) (d : decode cc pc = .ok (.aconst_null, 1)) (hq : pc + 1 = q)  (k : GW p l e R s m args below meth c D b0 nL Q G bc bs q lv (.null :: st)) : GW p l e R s m args below meth c D b0 nL Q G bc bs pc lv st := by
  subst hq
  intro H locs ls cells slots h1 h2 hg hl
  exact lv_null hc.1 hc.2.1 d (k H locs ls cells slots h1 h2 hg hl)
theorem gw_dup (hc : cx p s m args meth c D X b0 own cc nL ret) {va : Value} (d : decode cc pc = .ok (.dup, 1)) (hq : pc + 1 = q) (hva : va.category = 1) (k : GW p l e R s m args below meth c D b0 nL Q G bc bs q lv (va :: va :: st)) : GW p l e R s m args below meth c D b0 nL Q G bc bs pc lv (va :: st) := by
  subst hq
  intro H locs ls cells slots h1 h2 hg hl
  exact lv_dup hc.1 hc.2.1 d hva (k H locs ls cells slots h1 h2 hg hl)
theorem gw_pop (hc : cx p s m args meth c D X b0 own cc nL ret) {va : Value} (d : decode cc pc = .ok (.pop, 1)) (hq : pc + 1 = q) (hva : va.category = 1) (k : GW p l e R s m args below meth c D b0 nL Q G bc bs q lv st) : GW p l e R s m args below meth c D b0 nL Q G bc bs pc lv (va :: st) := by
  subst hq
  intro H locs ls cells slots h1 h2 hg hl
  exact lv_pop hc.1 hc.2.1 d hva (k H locs ls cells slots h1 h2 hg hl)
theorem gw_dup_x1 (hc : cx p s m args meth c D X b0 own cc nL ret) {va vb : Value} (d : decode cc pc = .ok (.dup_x1, 1)) (hq : pc + 1 = q) (hva : va.category = 1) (hvb : vb.category = 1) (k : GW p l e R s m args below meth c D b0 nL Q G bc bs q lv (va :: vb :: va :: st)) : GW p l e R s m args below meth c D b0 nL Q G bc bs pc lv (va :: vb :: st) := by
  subst hq
  intro H locs ls cells slots h1 h2 hg hl
  exact lv_dup_x1 hc.1 hc.2.1 d hva hvb (k H locs ls cells slots h1 h2 hg hl)
theorem gw_dup2_11 (hc : cx p s m args meth c D X b0 own cc nL ret) {va vb : Value} (d : decode cc pc = .ok (.dup2, 1)) (hq : pc + 1 = q) (hva : va.category = 1) (hvb : vb.category = 1) (k : GW p l e R s m args below meth c D b0 nL Q G bc bs q lv (va :: vb :: va :: vb :: st)) : GW p l e R s m args below meth c D b0 nL Q G bc bs pc lv (va :: vb :: st) := by
  subst hq
  intro H locs ls cells slots h1 h2 hg hl
  exact lv_dup2_11 hc.1 hc.2.1 d hva hvb (k H locs ls cells slots h1 h2 hg hl)
theorem gw_iinc (hc : cx p s m args meth c D X b0 own cc nL ret) {i : Nat} {n a : Int} (d : decode cc pc = .ok (.iinc i n, 3)) (hq : pc + 3 = q) (hv : lv[i]? = some (some (.int (iI a)))) (hs : lv.set i (some (.int (iI (a + n)))) = lv') (hn : i < nL) (hp : ∀ w, lv[i - 1]? = some (some w) → 0 < i → w.category ≠ 2) (k : GW p l e R s m args below meth c D b0 nL Q G bc bs q lv' st) : GW p l e R s m args below meth c D b0 nL Q G bc bs pc lv st := by
  subst hq
  intro H locs ls cells slots h1 h2 hg hl
  obtain ⟨kk, hkk⟩ := List.getElem?_of_mem ((lvl_mem lv 0 (i, .int (iI a))).mpr ⟨Nat.zero_le _, by simpa using hv⟩)
  exact lv_iinc hc.1 hc.2.1 (v := iI (a + n)) d hl.has hkk (by rw [iI_add]; rfl) hn rfl (fun ls2 hl2 => k H locs ls2 cells slots h1 h2 hg (lvo.of hl2 (len_set hl.2.2.1 hs) (lvo_set1 hs hp)))
theorem gw_goto (hc : cx p s m args meth c D X b0 own cc nL ret) {off : Int} (d : decode cc pc = .ok (.goto off, 3)) (hq : (pc : Int) + off = (q : Int)) (k : GW p l e R s m args below meth c D b0 nL Q G bc bs q lv st) : GW p l e R s m args below meth c D b0 nL Q G bc bs pc lv st := fun H locs ls cells slots h1 h2 hg hl => lv_goto hc.1 hc.2.1 d hq (k H locs ls cells slots h1 h2 hg hl)
theorem gw_icmp_eq (hc : cx p s m args meth c D X b0 own cc nL ret) {off : Int} {t : Nat} {a b : Int} (d : decode cc pc = .ok (.if_icmp .eq off, 3)) (hq : pc + 3 = q) (ht : (pc : Int) + off = (t : Int)) (ha : rI a) (hb : rI b) (kt : a = b → GW p l e R s m args below meth c D b0 nL Q G bc bs t lv st) (kf : a ≠ b → GW p l e R s m args below meth c D b0 nL Q G bc bs q lv st) : GW p l e R s m args below meth c D b0 nL Q G bc bs pc lv (.int (iI b) :: .int (iI a) :: st) := by
  subst hq
  intro H locs ls cells slots h1 h2 hg hl
  exact lv_icmp_eq hc.1 hc.2.1 d ht (fun h => kt ((iI_eq ha hb).mp h) H locs ls cells slots h1 h2 hg hl) (fun h => kf (fun z => h ((iI_eq ha hb).mpr z)) H locs ls cells slots h1 h2 hg hl)
theorem gw_if_eq (hc : cx p s m args meth c D X b0 own cc nL ret) {off : Int} {t : Nat} {a : Int} (d : decode cc pc = .ok (.ifCond .eq off, 3)) (hq : pc + 3 = q) (ht : (pc : Int) + off = (t : Int)) (ha : rI a) (kt : a = 0 → GW p l e R s m args below meth c D b0 nL Q G bc bs t lv st) (kf : a ≠ 0 → GW p l e R s m args below meth c D b0 nL Q G bc bs q lv st) : GW p l e R s m args below meth c D b0 nL Q G bc bs pc lv (.int (iI a) :: st) := by
  subst hq
  intro H locs ls cells slots h1 h2 hg hl
  exact lv_if_eq hc.1 hc.2.1 d ht (fun h => kt ((iI_eq ha (show rI 0 by decide)).mp h) H locs ls cells slots h1 h2 hg hl) (fun h => kf (fun z => h ((iI_eq ha (show rI 0 by decide)).mpr z)) H locs ls cells slots h1 h2 hg hl)
theorem gw_ifc_eq (hc : cx p s m args meth c D X b0 own cc nL ret) {off : Int} {t : Nat} {a b : Int} (d : decode cc pc = .ok (.ifCond .eq off, 3)) (hq : pc + 3 = q) (ht : (pc : Int) + off = (t : Int)) (kt : a = b → GW p l e R s m args below meth c D b0 nL Q G bc bs t lv st) (kf : a ≠ b → GW p l e R s m args below meth c D b0 nL Q G bc bs q lv st) : GW p l e R s m args below meth c D b0 nL Q G bc bs pc lv (.int (iI (lC a b)) :: st) := gw_if_eq hc d hq ht lC_r (fun h => kt (lC_eq.mp h)) (fun h => kf (fun z => h (lC_eq.mpr z)))
theorem gw_icmp_ne (hc : cx p s m args meth c D X b0 own cc nL ret) {off : Int} {t : Nat} {a b : Int} (d : decode cc pc = .ok (.if_icmp .ne off, 3)) (hq : pc + 3 = q) (ht : (pc : Int) + off = (t : Int)) (ha : rI a) (hb : rI b) (kt : a ≠ b → GW p l e R s m args below meth c D b0 nL Q G bc bs t lv st) (kf : a = b → GW p l e R s m args below meth c D b0 nL Q G bc bs q lv st) : GW p l e R s m args below meth c D b0 nL Q G bc bs pc lv (.int (iI b) :: .int (iI a) :: st) := by
  subst hq
  intro H locs ls cells slots h1 h2 hg hl
  exact lv_icmp_ne hc.1 hc.2.1 d ht (fun h => kt (fun z => h ((iI_eq ha hb).mpr z)) H locs ls cells slots h1 h2 hg hl) (fun h => kf ((iI_eq ha hb).mp h) H locs ls cells slots h1 h2 hg hl)
theorem gw_if_ne (hc : cx p s m args meth c D X b0 own cc nL ret) {off : Int} {t : Nat} {a : Int} (d : decode cc pc = .ok (.ifCond .ne off, 3)) (hq : pc + 3 = q) (ht : (pc : Int) + off = (t : Int)) (ha : rI a) (kt : a ≠ 0 → GW p l e R s m args below meth c D b0 nL Q G bc bs t lv st) (kf : a = 0 → GW p l e R s m args below meth c D b0 nL Q G bc bs q lv st) : GW p l e R s m args below meth c D b0 nL Q G bc bs pc lv (.int (iI a) :: st) := by
  subst hq
  intro H locs ls cells slots h1 h2 hg hl
  exact lv_if_ne hc.1 hc.2.1 d ht (fun h => kt (fun z => h ((iI_eq ha (show rI 0 by decide)).mpr z)) H locs ls cells slots h1 h2 hg hl) (fun h => kf ((iI_eq ha (show rI 0 by decide)).mp h) H locs ls cells slots h1 h2 hg hl)
theorem gw_ifc_ne (hc : cx p s m args meth c D X b0 own cc nL ret) {off : Int} {t : Nat} {a b : Int} (d : decode cc pc = .ok (.ifCond .ne off, 3)) (hq : pc + 3 = q) (ht : (pc : Int) + off = (t : Int)) (kt : a ≠ b → GW p l e R s m args below meth c D b0 nL Q G bc bs t lv st) (kf : a = b → GW p l e R s m args below meth c D b0 nL Q G bc bs q lv st) : GW p l e R s m args below meth c D b0 nL Q G bc bs pc lv (.int (iI (lC a b)) :: st) := gw_if_ne hc d hq ht lC_r (fun h => kt (fun z => h (lC_eq.mpr z))) (fun h => kf (lC_eq.mp h))
theorem gw_icmp_lt (hc : cx p s m args meth c D X b0 own cc nL ret) {off : Int} {t : Nat} {a b : Int} (d : decode cc pc = .ok (.if_icmp .lt off, 3)) (hq : pc + 3 = q) (ht : (pc : Int) + off = (t : Int)) (ha : rI a) (hb : rI b) (kt : a < b → GW p l e R s m args below meth c D b0 nL Q G bc bs t lv st) (kf : b ≤ a → GW p l e R s m args below meth c D b0 nL Q G bc bs q lv st) : GW p l e R s m args below meth c D b0 nL Q G bc bs pc lv (.int (iI b) :: .int (iI a) :: st) := by
  subst hq
  intro H locs ls cells slots h1 h2 hg hl
  exact lv_icmp_lt hc.1 hc.2.1 d ht (fun h => kt ((iI_lt ha hb).mp h) H locs ls cells slots h1 h2 hg hl) (fun h => kf (Int.not_lt.mp (fun z => h ((iI_lt ha hb).mpr z))) H locs ls cells slots h1 h2 hg hl)
theorem gw_if_lt (hc : cx p s m args meth c D X b0 own cc nL ret) {off : Int} {t : Nat} {a : Int} (d : decode cc pc = .ok (.ifCond .lt off, 3)) (hq : pc + 3 = q) (ht : (pc : Int) + off = (t : Int)) (ha : rI a) (kt : a < 0 → GW p l e R s m args below meth c D b0 nL Q G bc bs t lv st) (kf : 0 ≤ a → GW p l e R s m args below meth c D b0 nL Q G bc bs q lv st) : GW p l e R s m args below meth c D b0 nL Q G bc bs pc lv (.int (iI a) :: st) := by
  subst hq
  intro H locs ls cells slots h1 h2 hg hl
  exact lv_if_lt hc.1 hc.2.1 d ht (fun h => kt ((iI_lt ha (show rI 0 by decide)).mp h) H locs ls cells slots h1 h2 hg hl) (fun h => kf (Int.not_lt.mp (fun z => h ((iI_lt ha (show rI 0 by decide)).mpr z))) H locs ls cells slots h1 h2 hg hl)
theorem gw_ifc_lt (hc : cx p s m args meth c D X b0 own cc nL ret) {off : Int} {t : Nat} {a b : Int} (d : decode cc pc = .ok (.ifCond .lt off, 3)) (hq : pc + 3 = q) (ht : (pc : Int) + off = (t : Int)) (kt : a < b → GW p l e R s m args below meth c D b0 nL Q G bc bs t lv st) (kf : b ≤ a → GW p l e R s m args below meth c D b0 nL Q G bc bs q lv st) : GW p l e R s m args below meth c D b0 nL Q G bc bs pc lv (.int (iI (lC a b)) :: st) := gw_if_lt hc d hq ht lC_r (fun h => kt (lC_lt.mp h)) (fun h => kf (Int.not_lt.mp (fun z => absurd (lC_lt.mpr z) (Int.not_lt.mpr h))))
theorem gw_icmp_ge (hc : cx p s m args meth c D X b0 own cc nL ret) {off : Int} {t : Nat} {a b : Int} (d : decode cc pc = .ok (.if_icmp .ge off, 3)) (hq : pc + 3 = q) (ht : (pc : Int) + off = (t : Int)) (ha : rI a) (hb : rI b) (kt : b ≤ a → GW p l e R s m args below meth c D b0 nL Q G bc bs t lv st) (kf : a < b → GW p l e R s m args below meth c D b0 nL Q G bc bs q lv st) : GW p l e R s m args below meth c D b0 nL Q G bc bs pc lv (.int (iI b) :: .int (iI a) :: st) := by
  subst hq
  intro H locs ls cells slots h1 h2 hg hl
  exact lv_icmp_ge hc.1 hc.2.1 d ht (fun h => kt ((iI_le hb ha).mp h) H locs ls cells slots h1 h2 hg hl) (fun h => kf (Int.not_le.mp (fun z => h ((iI_le hb ha).mpr z))) H locs ls cells slots h1 h2 hg hl)
theorem gw_if_ge (hc : cx p s m args meth c D X b0 own cc nL ret) {off : Int} {t : Nat} {a : Int} (d : decode cc pc = .ok (.ifCond .ge off, 3)) (hq : pc + 3 = q) (ht : (pc : Int) + off = (t : Int)) (ha : rI a) (kt : 0 ≤ a → GW p l e R s m args below meth c D b0 nL Q G bc bs t lv st) (kf : a < 0 → GW p l e R s m args below meth c D b0 nL Q G bc bs q lv st) : GW p l e R s m args below meth c D b0 nL Q G bc bs pc lv (.int (iI a) :: st) := by
  subst hq
  intro H locs ls cells slots h1 h2 hg hl
  exact lv_if_ge hc.1 hc.2.1 d ht (fun h => kt ((iI_le (show rI 0 by decide) ha).mp h) H locs ls cells slots h1 h2 hg hl) (fun h => kf (Int.not_le.mp (fun z => h ((iI_le (show rI 0 by decide) ha).mpr z))) H locs ls cells slots h1 h2 hg hl)
theorem gw_ifc_ge (hc : cx p s m args meth c D X b0 own cc nL ret) {off : Int} {t : Nat} {a b : Int} (d : decode cc pc = .ok (.ifCond .ge off, 3)) (hq : pc + 3 = q) (ht : (pc : Int) + off = (t : Int)) (kt : b ≤ a → GW p l e R s m args below meth c D b0 nL Q G bc bs t lv st) (kf : a < b → GW p l e R s m args below meth c D b0 nL Q G bc bs q lv st) : GW p l e R s m args below meth c D b0 nL Q G bc bs pc lv (.int (iI (lC a b)) :: st) := gw_if_ge hc d hq ht lC_r (fun h => kt (lC_ge.mp h)) (fun h => kf (Int.not_le.mp (fun z => absurd (lC_ge.mpr z) (Int.not_le.mpr h))))
theorem gw_icmp_gt (hc : cx p s m args meth c D X b0 own cc nL ret) {off : Int} {t : Nat} {a b : Int} (d : decode cc pc = .ok (.if_icmp .gt off, 3)) (hq : pc + 3 = q) (ht : (pc : Int) + off = (t : Int)) (ha : rI a) (hb : rI b) (kt : b < a → GW p l e R s m args below meth c D b0 nL Q G bc bs t lv st) (kf : a ≤ b → GW p l e R s m args below meth c D b0 nL Q G bc bs q lv st) : GW p l e R s m args below meth c D b0 nL Q G bc bs pc lv (.int (iI b) :: .int (iI a) :: st) := by
  subst hq
  intro H locs ls cells slots h1 h2 hg hl
  exact lv_icmp_gt hc.1 hc.2.1 d ht (fun h => kt ((iI_lt hb ha).mp h) H locs ls cells slots h1 h2 hg hl) (fun h => kf (Int.not_lt.mp (fun z => h ((iI_lt hb ha).mpr z))) H locs ls cells slots h1 h2 hg hl)
theorem gw_if_gt (hc : cx p s m args meth c D X b0 own cc nL ret) {off : Int} {t : Nat} {a : Int} (d : decode cc pc = .ok (.ifCond .gt off, 3)) (hq : pc + 3 = q) (ht : (pc : Int) + off = (t : Int)) (ha : rI a) (kt : 0 < a → GW p l e R s m args below meth c D b0 nL Q G bc bs t lv st) (kf : a ≤ 0 → GW p l e R s m args below meth c D b0 nL Q G bc bs q lv st) : GW p l e R s m args below meth c D b0 nL Q G bc bs pc lv (.int (iI a) :: st) := by
  subst hq
  intro H locs ls cells slots h1 h2 hg hl
  exact lv_if_gt hc.1 hc.2.1 d ht (fun h => kt ((iI_lt (show rI 0 by decide) ha).mp h) H locs ls cells slots h1 h2 hg hl) (fun h => kf (Int.not_lt.mp (fun z => h ((iI_lt (show rI 0 by decide) ha).mpr z))) H locs ls cells slots h1 h2 hg hl)
theorem gw_ifc_gt (hc : cx p s m args meth c D X b0 own cc nL ret) {off : Int} {t : Nat} {a b : Int} (d : decode cc pc = .ok (.ifCond .gt off, 3)) (hq : pc + 3 = q) (ht : (pc : Int) + off = (t : Int)) (kt : b < a → GW p l e R s m args below meth c D b0 nL Q G bc bs t lv st) (kf : a ≤ b → GW p l e R s m args below meth c D b0 nL Q G bc bs q lv st) : GW p l e R s m args below meth c D b0 nL Q G bc bs pc lv (.int (iI (lC a b)) :: st) := gw_if_gt hc d hq ht lC_r (fun h => kt (lC_gt.mp h)) (fun h => kf (Int.not_lt.mp (fun z => absurd (lC_gt.mpr z) (Int.not_lt.mpr h))))
theorem gw_icmp_le (hc : cx p s m args meth c D X b0 own cc nL ret) {off : Int} {t : Nat} {a b : Int} (d : decode cc pc = .ok (.if_icmp .le off, 3)) (hq : pc + 3 = q) (ht : (pc : Int) + off = (t : Int)) (ha : rI a) (hb : rI b) (kt : a ≤ b → GW p l e R s m args below meth c D b0 nL Q G bc bs t lv st) (kf : b < a → GW p l e R s m args below meth c D b0 nL Q G bc bs q lv st) : GW p l e R s m args below meth c D b0 nL Q G bc bs pc lv (.int (iI b) :: .int (iI a) :: st) := by
  subst hq
  intro H locs ls cells slots h1 h2 hg hl
  exact lv_icmp_le hc.1 hc.2.1 d ht (fun h => kt ((iI_le ha hb).mp h) H locs ls cells slots h1 h2 hg hl) (fun h => kf (Int.not_le.mp (fun z => h ((iI_le ha hb).mpr z))) H locs ls cells slots h1 h2 hg hl)
theorem gw_if_le (hc : cx p s m args meth c D X b0 own cc nL ret) {off : Int} {t : Nat} {a : Int} (d : decode cc pc = .ok (.ifCond .le off, 3)) (hq : pc + 3 = q) (ht : (pc : Int) + off = (t : Int)) (ha : rI a) (kt : a ≤ 0 → GW p l e R s m args below meth c D b0 nL Q G bc bs t lv st) (kf : 0 < a → GW p l e R s m args below meth c D b0 nL Q G bc bs q lv st) : GW p l e R s m args below meth c D b0 nL Q G bc bs pc lv (.int (iI a) :: st) := by
  subst hq
  intro H locs ls cells slots h1 h2 hg hl
  exact lv_if_le hc.1 hc.2.1 d ht (fun h => kt ((iI_le ha (show rI 0 by decide)).mp h) H locs ls cells slots h1 h2 hg hl) (fun h => kf (Int.not_le.mp (fun z => h ((iI_le ha (show rI 0 by decide)).mpr z))) H locs ls cells slots h1 h2 hg hl)
theorem gw_ifc_le (hc : cx p s m args meth c D X b0 own cc nL ret) {off : Int} {t : Nat} {a b : Int} (d : decode cc pc = .ok (.ifCond .le off, 3)) (hq : pc + 3 = q) (ht : (pc : Int) + off = (t : Int)) (kt : a ≤ b → GW p l e R s m args below meth c D b0 nL Q G bc bs t lv st) (kf : b < a → GW p l e R s m args below meth c D b0 nL Q G bc bs q lv st) : GW p l e R s m args below meth c D b0 nL Q G bc bs pc lv (.int (iI (lC a b)) :: st) := gw_if_le hc d hq ht lC_r (fun h => kt (lC_le.mp h)) (fun h => kf (Int.not_le.mp (fun z => absurd (lC_le.mpr z) (Int.not_le.mpr h))))
theorem gw_acmp_eq (hc : cx p s m args meth c D X b0 own cc nL ret) {off : Int} {t : Nat} {x y : Option Nat} (d : decode cc pc = .ok (.if_acmp .eq off, 3)) (hq : pc + 3 = q) (ht : (pc : Int) + off = (t : Int)) (kt : x = y → GW p l e R s m args below meth c D b0 nL Q G bc bs t lv st) (kf : x ≠ y → GW p l e R s m args below meth c D b0 nL Q G bc bs q lv st) : GW p l e R s m args below meth c D b0 nL Q G bc bs pc lv (va_rf y :: va_rf x :: st) := by
  subst hq
  intro H locs ls cells slots h1 h2 hg hl
  exact lv_acmp_eq hc.1 hc.2.1 d ht (fun h => kt h H locs ls cells slots h1 h2 hg hl) (fun h => kf h H locs ls cells slots h1 h2 hg hl)
theorem gw_acmp_ne (hc : cx p s m args meth c D X b0 own cc nL ret) {off : Int} {t : Nat} {x y : Option Nat} (d : decode cc pc = .ok (.if_acmp .ne off, 3)) (hq : pc + 3 = q) (ht : (pc : Int) + off = (t : Int)) (kt : x ≠ y → GW p l e R s m args below meth c D b0 nL Q G bc bs t lv st) (kf : x = y → GW p l e R s m args below meth c D b0 nL Q G bc bs q lv st) : GW p l e R s m args below meth c D b0 nL Q G bc bs pc lv (va_rf y :: va_rf x :: st) := by
  subst hq
  intro H locs ls cells slots h1 h2 hg hl
  exact lv_acmp_ne hc.1 hc.2.1 d ht (fun h => kt h H locs ls cells slots h1 h2 hg hl) (fun h => kf h H locs ls cells slots h1 h2 hg hl)
theorem gw_ifnonnull (hc : cx p s m args meth c D X b0 own cc nL ret) {off : Int} {t : Nat} {x : Nat} (d : decode cc pc = .ok (.ifnonnull off, 3)) (ht : (pc : Int) + off = (t : Int)) (k : GW p l e R s m args below meth c D b0 nL Q G bc bs t lv st) : GW p l e R s m args below meth c D b0 nL Q G bc bs pc lv (.ref x :: st) := fun H locs ls cells slots h1 h2 hg hl => lv_ifnonnull hc.1 hc.2.1 d ht (k H locs ls cells slots h1 h2 hg hl)
theorem gw_ifnull (hc : cx p s m args meth c D X b0 own cc nL ret) {off : Int} {x : Nat} (d : decode cc pc = .ok (.ifnull off, 3)) (hq : pc + 3 = q) (k : GW p l e R s m args below meth c D b0 nL Q G bc bs q lv st) : GW p l e R s m args below meth c D b0 nL Q G bc bs pc lv (.ref x :: st) := by
  subst hq
  intro H locs ls cells slots h1 h2 hg hl
  exact lv_ifnull hc.1 hc.2.1 d (k H locs ls cells slots h1 h2 hg hl)
theorem gw_ifnullN (hc : cx p s m args meth c D X b0 own cc nL ret) {off : Int} {t : Nat} (d : decode cc pc = .ok (.ifnull off, 3)) (ht : (pc : Int) + off = (t : Int)) (k : GW p l e R s m args below meth c D b0 nL Q G bc bs t lv st) : GW p l e R s m args below meth c D b0 nL Q G bc bs pc lv (.null :: st) := fun H locs ls cells slots h1 h2 hg hl => lv_ifnullN hc.1 hc.2.1 d ht (k H locs ls cells slots h1 h2 hg hl)
theorem gw_ifnonnullN (hc : cx p s m args meth c D X b0 own cc nL ret) {off : Int} (d : decode cc pc = .ok (.ifnonnull off, 3)) (hq : pc + 3 = q) (k : GW p l e R s m args below meth c D b0 nL Q G bc bs q lv st) : GW p l e R s m args below meth c D b0 nL Q G bc bs pc lv (.null :: st) := by
  subst hq
  intro H locs ls cells slots h1 h2 hg hl
  exact lv_ifnonnullN hc.1 hc.2.1 d (k H locs ls cells slots h1 h2 hg hl)
theorem gw_lookup (hc : cx p s m args meth c D X b0 own cc nL ret) {dflt : Int} {ps : Array (Int × Int)} {len t : Nat} {a off : Int} (d : decode cc pc = .ok (.lookupswitch dflt ps, len)) (ha : rI a) (hp : (ps.toList.zip (ps.toList.drop 1)).all (fun (a, next) => a.1 < next.1) = true) (ho : Op.lookupswitch.offset ps.toList dflt a = off) (ht : (pc : Int) + off = (t : Int)) (k : GW p l e R s m args below meth c D b0 nL Q G bc bs t lv st) : GW p l e R s m args below meth c D b0 nL Q G bc bs pc lv (.int (iI a) :: st) := fun H locs ls cells slots h1 h2 hg hl => lv_lookup hc.1 hc.2.1 d hp (by rw [iI_toInt ha]; exact ho) ht (k H locs ls cells slots h1 h2 hg hl)
theorem gw_tableOut (hc : cx p s m args meth c D X b0 own cc nL ret) {dflt lo hi : Int} {offs : Array Int} {len t : Nat} {a : Int} (d : decode cc pc = .ok (.tableswitch dflt lo hi offs, len)) (ha : rI a) (h : a < lo ∨ hi < a) (ht : (pc : Int) + dflt = (t : Int)) (k : GW p l e R s m args below meth c D b0 nL Q G bc bs t lv st) : GW p l e R s m args below meth c D b0 nL Q G bc bs pc lv (.int (iI a) :: st) := fun H locs ls cells slots h1 h2 hg hl => lv_tableOut hc.1 hc.2.1 d (by rw [iI_toInt ha]; exact h) ht (k H locs ls cells slots h1 h2 hg hl)
theorem gw_tableIn (hc : cx p s m args meth c D X b0 own cc nL ret) {dflt lo hi : Int} {offs : Array Int} {len t : Nat} {a off : Int} (d : decode cc pc = .ok (.tableswitch dflt lo hi offs, len)) (ha : rI a) (h : lo ≤ a ∧ a ≤ hi) (ho : offs[(a - lo).toNat]? = some off) (ht : (pc : Int) + off = (t : Int)) (k : GW p l e R s m args below meth c D b0 nL Q G bc bs t lv st) : GW p l e R s m args below meth c D b0 nL Q G bc bs pc lv (.int (iI a) :: st) := fun H locs ls cells slots h1 h2 hg hl => lv_tableIn hc.1 hc.2.1 d (by rw [iI_toInt ha]; omega) (by rw [iI_toInt ha]; omega) (by rw [iI_toInt ha]; exact ho) ht (k H locs ls cells slots h1 h2 hg hl)
theorem gw_drop {i : Nat} (hs : lv.set i none = lv') (k : GW p l e R s m args below meth c D b0 nL Q G bc bs pc lv' st) : GW p l e R s m args below meth c D b0 nL Q G bc bs pc lv st := fun H locs ls cells slots h1 h2 hg hl => k H locs ls cells slots h1 h2 hg ⟨hl.1, hl.2.1, len_set hl.2.2.1 hs, fun j v h => hl.2.2.2 j v (by subst hs; by_cases hj : j = i; (subst hj; exfalso; have h1 := (List.getElem?_eq_some_iff.mp h).1; rw [List.length_set] at h1; rw [List.getElem?_set_self h1] at h; cases h); (rwa [List.getElem?_set_ne (Ne.symm hj)] at h))⟩
theorem gw_less {bc' bs' : Nat} (hb1 : bc' ≤ bc) (hb2 : bs' ≤ bs) (k : GW p l e R s m args below meth c D b0 nL Q G bc' bs' pc lv st) : GW p l e R s m args below meth c D b0 nL Q G bc bs pc lv st := fun H locs ls cells slots h1 h2 hg hl => k H locs ls cells slots (by omega) (by omega) hg hl
theorem gw_G {G' : gM} (h : G = G') (k : GW p l e R s m args below meth c D b0 nL Q G' bc bs pc lv st) : GW p l e R s m args below meth c D b0 nL Q G bc bs pc lv st := h ▸ k
theorem gw_lv (h : lv = lv') (k : GW p l e R s m args below meth c D b0 nL Q G bc bs pc lv' st) : GW p l e R s m args below meth c D b0 nL Q G bc bs pc lv st := h ▸ k
theorem gw_st {st' : List Value} (h : st = st') (k : GW p l e R s m args below meth c D b0 nL Q G bc bs pc lv st') : GW p l e R s m args below meth c D b0 nL Q G bc bs pc lv st := h ▸ k
end GWP
