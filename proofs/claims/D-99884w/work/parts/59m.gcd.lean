/-! PLAIN 9d: lowest terms -/
set_option maxRecDepth 100000
theorem cmp0 {a : Nat} (h : a ≤ 9223372036854775807) : (lg_cmp (jj a) 0 = 0) ↔ a = 0 := by
  have e : (jj a = (0 : Int64)) = ((a : Int) = 0) := jj_eq (b := 0) ⟨by omega, by omega⟩ ⟨by omega, by omega⟩
  unfold lg_cmp
  constructor
  · intro h0
    by_cases hz : jj a = (0 : Int64)
    · have := e.mp hz
      omega
    · rw [if_neg hz] at h0
      split at h0
      · exact absurd h0 (by decide)
      · exact absurd h0 (by decide)
  · rintro rfl
    rfl
theorem gc_half {x y : Nat} (h1 : 0 < y) (h2 : 0 < x % y) : 2 * (y % (x % y)) < y := by
  have a1 : x % y < y := Nat.mod_lt _ h1
  have a2 : y % (x % y) < x % y := Nat.mod_lt _ h2
  have a3 := Nat.div_add_mod y (x % y)
  have a4 : 1 ≤ y / (x % y) := Nat.div_pos (Nat.le_of_lt a1) h2
  have a5 : (x % y) * 1 ≤ (x % y) * (y / (x % y)) := Nat.mul_le_mul_left _ a4
  omega
theorem gc_step {x y : Nat} (h1 : 0 < y) : Nat.gcd x y = Nat.gcd y (x % y) := by
  rw [Nat.gcd_comm x y, Nat.gcd_rec y x, Nat.gcd_comm]
/-- Euclid, by any loop of this form -/
theorem gc_loop {ρ : Type} (L : Nat → Int64 → Int64 → Option ρ) (fin : Int64 → Option ρ) (hL : ∀ N u v, L (N + 1) u v = if lg_cmp v 0 = 0 then fin u else (if v = 0 then none else L N v (l_rem u v))) : ∀ (j N x y : Nat), y < 2 ^ j → 2 * j < N → x ≤ 9223372036854775807 → y ≤ 9223372036854775807 → L N (jj x) (jj y) = fin (jj (Nat.gcd x y)) := by
  have one : ∀ (N x y : Nat), 0 < y → x ≤ 9223372036854775807 → y ≤ 9223372036854775807 → L (N + 1) (jj x) (jj y) = L N (jj y) (jj (x % y : Nat)) := by
    intro N x y h1 h2 h3
    have e1 : ¬ lg_cmp (jj y) 0 = 0 := fun h => by have := (cmp0 h3).mp h; omega
    have e2 : ¬ jj y = (0 : Int64) := fun h => by
      have e : (jj y = (0 : Int64)) = ((y : Int) = 0) := jj_eq (b := 0) ⟨by omega, by omega⟩ ⟨by omega, by omega⟩
      have := e.mp h
      omega
    rw [hL, if_neg e1, if_neg e2, jj_rem (by omega) (by omega) (by omega) (by omega)]
    rfl
  have zero : ∀ (N x : Nat), L (N + 1) (jj x) (jj (0 : Nat)) = fin (jj x) := by
    intro N x
    rw [hL, if_pos ((cmp0 (a := 0) (by omega)).mpr rfl)]
  intro j
  induction j with
  | zero =>
    intro N x y h1 h2 h3 h4
    obtain ⟨N, rfl⟩ : ∃ M, N = M + 1 := ⟨N - 1, by omega⟩
    obtain rfl : y = 0 := by
      have : (2 : Nat) ^ 0 = 1 := rfl
      omega
    rw [Nat.gcd_zero_right]
    exact zero N x
  | succ j ih =>
    intro N x y h1 h2 h3 h4
    obtain ⟨N, rfl⟩ : ∃ M, N = M + 3 := ⟨N - 3, by omega⟩
    by_cases hy : y = 0
    · subst hy
      rw [Nat.gcd_zero_right]
      exact zero (N + 2) x
    · have hm : x % y < y := Nat.mod_lt _ (by omega)
      rw [one (N + 2) x y (by omega) h3 h4, gc_step (show 0 < y by omega)]
      by_cases hz : x % y = 0
      · rw [hz, Nat.gcd_zero_right]
        exact zero (N + 1) y
      · have hh := gc_half (x := x) (show 0 < y by omega) (show 0 < x % y by omega)
        rw [one (N + 1) y (x % y) (by omega) h4 (by omega), gc_step (show 0 < x % y by omega)]
        refine ih (N + 1) (x % y) (y % (x % y)) ?_ (by omega) (by omega) (by omega)
        have : 2 ^ (j + 1) = 2 * 2 ^ j := by rw [Nat.pow_succ]; omega
        omega
theorem k_common (m : fk_M) {x y : Nat} (h1 : x ≤ 9223372036854775807) (h2 : y ≤ 9223372036854775807) : f_X1_common (jj x) (jj y) m = some (jj (Nat.gcd x y)) := by
  unfold f_X1_common
  exact gc_loop (fun N u v => f_X1_common_L6 m N u v) (fun u => some u) (fun N u v => by rw [f_X1_common_L6]) 64 fk_fuel x y (by have : (2 : Nat) ^ 64 = 18446744073709551616 := rfl; omega) (by unfold fk_fuel; omega) h1 h2
theorem m_lowest (m : fk_M) (c : Int32) {x y : Nat} (h1 : x ≤ 9223372036854775807) (h2 : y ≤ 9223372036854775807) (h3 : 0 < y) : f_X2_lowest (jj x) (jj y) c m = some ((if c = 0 then jj x else jj y) / jj (Nat.gcd x y)) := by
  unfold f_X2_lowest
  have h := gc_loop (fun N u v => f_X2_lowest_L6 (jj x) (jj y) c m N u v) (fun u => if u = 0 then none else (some ((if c = 0 then jj x else jj y) / u))) (fun N u v => by rw [f_X2_lowest_L6]) 64 fk_fuel y x (by have : (2 : Nat) ^ 64 = 18446744073709551616 := rfl; omega) (by unfold fk_fuel; omega) h2 h1
  refine h.trans ?_
  have hg : 0 < Nat.gcd y x := Nat.gcd_pos_of_pos_left _ h3
  have hg2 : Nat.gcd y x ≤ y := Nat.gcd_le_left _ h3
  have e : (jj (Nat.gcd y x : Nat) = (0 : Int64)) = (((Nat.gcd y x : Nat) : Int) = 0) := jj_eq (b := 0) ⟨by omega, by omega⟩ ⟨by omega, by omega⟩
  rw [if_neg (fun h => by have := e.mp h; omega), Nat.gcd_comm y x]
