/-! PLAIN 1: numbers: Int for Int32 -/
set_option maxRecDepth 100000
def ii (a : Int) : Int32 := Int32.ofInt a
abbrev rg (a : Int) : Prop := -2147483648 ≤ a ∧ a ≤ 2147483647
theorem ii_toInt {a : Int} (h : rg a) : (ii a).toInt = a := by
  unfold ii
  rw [Int32.toInt_ofInt]
  have hz : (Int32.size : Int) = 4294967296 := rfl
  exact Int.bmod_eq_of_le (by rw [hz]; omega) (by rw [hz]; omega)
theorem ii_add (a b : Int) : ii a + ii b = ii (a + b) := (Int32.ofInt_add a b).symm
theorem ii_sub (a b : Int) : ii a - ii b = ii (a - b) := (Int32.ofInt_sub a b).symm
theorem ii_mul (a b : Int) : ii a * ii b = ii (a * b) := (Int32.ofInt_mul a b).symm
theorem ii_neg (a : Int) : - ii a = ii (- a) := (Int32.ofInt_neg a).symm
theorem ii_lit (n : Nat) : (@OfNat.ofNat Int32 n _) = ii (@OfNat.ofNat Int n _) := by
  show Int32.ofNat n = Int32.ofInt (Int.ofNat n)
  rfl
theorem ii_le {a b : Int} (ha : rg a) (hb : rg b) : (ii a ≤ ii b) = (a ≤ b) := by
  rw [Int32.le_iff_toInt_le, ii_toInt ha, ii_toInt hb]
theorem ii_lt {a b : Int} (ha : rg a) (hb : rg b) : (ii a < ii b) = (a < b) := by
  rw [Int32.lt_iff_toInt_lt, ii_toInt ha, ii_toInt hb]
theorem ii_eq {a b : Int} (ha : rg a) (hb : rg b) : (ii a = ii b) = (a = b) := by
  apply propext
  constructor
  · intro h
    have := congrArg Int32.toInt h
    rwa [ii_toInt ha, ii_toInt hb] at this
  · rintro rfl; rfl
theorem ii_nat {a : Int} (h0 : 0 ≤ a) (h1 : a ≤ 2147483647) : (ii a).toNatClampNeg = a.toNat := by
  unfold Int32.toNatClampNeg
  rw [ii_toInt ⟨by omega, h1⟩]
theorem ii_div {a b : Int} (ha : 0 ≤ a) (ha2 : a ≤ 2147483647) (hb : 0 < b) (hb2 : b ≤ 2147483647) : ii a / ii b = ii (a / b) := by
  apply Int32.toInt.inj
  have h1 : a / b ≤ a := Int.ediv_le_self _ ha
  have h2 : 0 ≤ a / b := Int.ediv_nonneg ha (by omega)
  rw [Int32.toInt_div, ii_toInt ⟨by omega, by omega⟩, ii_toInt ⟨by omega, by omega⟩, ii_toInt ⟨by omega, by omega⟩, Int.tdiv_eq_ediv_of_nonneg ha]
  exact Int.bmod_eq_of_le (by omega) (by omega)
theorem ii_rem {a b : Int} (ha : 0 ≤ a) (ha2 : a ≤ 2147483647) (hb : 0 < b) (hb2 : b ≤ 2147483647) : i_rem (ii a) (ii b) = ii (a % b) := by
  show ii a - ii a / ii b * ii b = _
  rw [ii_div ha ha2 hb hb2, ii_mul, ii_sub]
  congr 1
  have := Int.emod_add_mul_ediv a b
  have h2 := Int.mul_comm b (a / b)
  omega
theorem ii_b {a : Int} (h0 : -128 ≤ a) (h1 : a ≤ 127) : i_b (ii a) = ii a := by
  apply Int32.toInt.inj
  show (ii a).toInt8.toInt32.toInt = _
  rw [Int8.toInt_toInt32, Int32.toInt_toInt8, ii_toInt ⟨by omega, by omega⟩]
  exact Int.bmod_eq_of_le (by omega) (by omega)
theorem ii_s {a : Int} (h0 : -32768 ≤ a) (h1 : a ≤ 32767) : i_s (ii a) = ii a := by
  apply Int32.toInt.inj
  show (ii a).toInt16.toInt32.toInt = _
  rw [Int16.toInt_toInt32, Int32.toInt_toInt16, ii_toInt ⟨by omega, by omega⟩]
  exact Int.bmod_eq_of_le (by omega) (by omega)
theorem ii_max {a b : Int} (ha : rg a) (hb : rg b) : i_max (ii a) (ii b) = ii (max a b) := by
  unfold i_max
  simp only [ii_lt ha hb]
  split <;> congr 1 <;> omega
theorem ii_min {a b : Int} (ha : rg a) (hb : rg b) : i_min (ii a) (ii b) = ii (min a b) := by
  unfold i_min
  simp only [ii_lt hb ha]
  split <;> congr 1 <;> omega
theorem ii_abs {a : Int} (ha : rg a) : i_abs (ii a) = ii (if 0 ≤ a then a else 0 - a) := by
  unfold i_abs
  have h0 : (0 : Int32) = ii 0 := rfl
  simp only [h0, ii_sub, ii_le (a := 0) (by omega) ha]
  split <;> rfl
theorem ii_ite {c : Prop} {_ : Decidable c} (a b : Int) : (if c then ii a else ii b) = ii (if c then a else b) := by
  split <;> rfl
example (a : Int) (h : 0 ≤ a) (h2 : a ≤ 99) : (if (ii a + 5) ≤ (-1) then (1 : Int32) else 0) = 0 := by
  simp (disch := omega) only [ii_lit, ii_neg, ii_add, ii_le, ii_ite]
  congr 1
  omega
