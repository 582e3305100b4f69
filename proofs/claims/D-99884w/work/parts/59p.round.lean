/-! PLAIN 9g: rounds: a row that goes on by its last state comes round -/
set_option maxRecDepth 100000
theorem pigeon : ∀ (m n : Nat) (f : Nat → Nat), (∀ i, i < n → f i < m) → (∀ i j, i < n → j < n → f i = f j → i = j) → n ≤ m := by
  intro m
  induction m with
  | zero =>
    intro n f h1 _
    by_cases hn : n = 0
    · omega
    · exact absurd (h1 0 (by omega)) (by omega)
  | succ m ih =>
    intro n f h1 h2
    by_cases he : ∃ i, i < n ∧ f i = m
    · obtain ⟨i, hi, hf⟩ := he
      have := ih (n - 1) (fun j => f (if j < i then j else j + 1)) (fun j hj => by
        have a1 : (if j < i then j else j + 1) < n := by split <;> omega
        have a2 := h1 _ a1
        have a3 : f (if j < i then j else j + 1) ≠ m := fun h => by
          have := h2 _ _ a1 hi (h.trans hf.symm)
          split at this <;> omega
        show f (if j < i then j else j + 1) < m
        omega) (fun j k hj hk h => by
        have := h2 (if j < i then j else j + 1) (if k < i then k else k + 1) (by split <;> omega) (by split <;> omega) h
        split at this <;> split at this <;> omega)
      omega
    · have := ih n f (fun i hi => by
        have a1 := h1 i hi
        have a2 : f i ≠ m := fun h => he ⟨i, hi, h⟩
        omega) h2
      omega
/-- the same state: what is said, and the season's number within a contract -/
def Sm (v r : Nat → Int) (i j : Nat) : Prop := v i = v j ∧ r i = r j
theorem Sm.on {v r : Nat → Int} (hD : ∀ i j, Sm v r i j → Sm v r (i + 1) (j + 1)) {i j : Nat} (h : Sm v r i j) : ∀ k, Sm v r (i + k) (j + k) := by
  intro k
  induction k with
  | zero => exact h
  | succ k ih => exact hD _ _ ih
theorem Sm.sy {v r : Nat → Int} {i j : Nat} (h : Sm v r i j) : Sm v r j i := ⟨h.1.symm, h.2.symm⟩
theorem Sm.tr {v r : Nat → Int} {i j k : Nat} (h : Sm v r i j) (h2 : Sm v r j k) : Sm v r i k := ⟨h.1.trans h2.1, h.2.trans h2.2⟩
/-- from sf on all comes again by sr, and no state below sf + sr comes twice -/
def Rd (v r : Nat → Int) (sf sr : Nat) : Prop := 0 < sr ∧ Sm v r sf (sf + sr) ∧ ∀ i j, i < j → j < sf + sr → ¬ Sm v r i j
theorem Rd.per {v r : Nat → Int} (hD : ∀ i j, Sm v r i j → Sm v r (i + 1) (j + 1)) {sf sr : Nat} (h : Rd v r sf sr) {k : Nat} (hk : sf ≤ k) : Sm v r k (k + sr) := by
  have := h.2.1.on hD (k - sf)
  rw [show sf + (k - sf) = k by omega, show sf + sr + (k - sf) = k + sr by omega] at this
  exact this
theorem Rd.mul {v r : Nat → Int} (hD : ∀ i j, Sm v r i j → Sm v r (i + 1) (j + 1)) {sf sr : Nat} (h : Rd v r sf sr) {k : Nat} (hk : sf ≤ k) : ∀ m, Sm v r k (k + m * sr) := by
  intro m
  induction m with
  | zero => rw [Nat.zero_mul]; exact ⟨rfl, rfl⟩
  | succ m ih =>
    have := h.per hD (k := k + m * sr) (by omega)
    rw [show k + m * sr + sr = k + (m + 1) * sr by rw [Nat.succ_mul]; omega] at this
    exact ih.tr this
theorem Rd.mod {v r : Nat → Int} (hD : ∀ i j, Sm v r i j → Sm v r (i + 1) (j + 1)) {sf sr : Nat} (h : Rd v r sf sr) {k : Nat} (hk : sf ≤ k) : Sm v r (sf + (k - sf) % sr) k := by
  have := h.mul hD (k := sf + (k - sf) % sr) (by omega) ((k - sf) / sr)
  have e := Nat.div_add_mod (k - sf) sr
  rw [show sf + (k - sf) % sr + (k - sf) / sr * sr = k by rw [Nat.mul_comm]; omega] at this
  exact this
theorem Rd.dvd {v r : Nat → Int} (hD : ∀ i j, Sm v r i j → Sm v r (i + 1) (j + 1)) {sf sr : Nat} (h : Rd v r sf sr) {k d : Nat} (hk : sf ≤ k) (hs : Sm v r k (k + d)) : sr ∣ d := by
  have h1 := h.mod hD hk
  have h2 := h.mod hD (k := k + d) (by omega)
  have h3 := (h1.tr hs).tr h2.sy
  have l1 : (k - sf) % sr < sr := Nat.mod_lt _ h.1
  have l2 : (k + d - sf) % sr < sr := Nat.mod_lt _ h.1
  have e : (k - sf) % sr = (k + d - sf) % sr := by
    by_cases hlt : (k - sf) % sr < (k + d - sf) % sr
    · exact absurd h3 (h.2.2 _ _ (by omega) (by omega))
    · by_cases hgt : (k + d - sf) % sr < (k - sf) % sr
      · exact absurd h3.sy (h.2.2 _ _ (by omega) (by omega))
      · omega
  have a1 := Nat.div_add_mod (k - sf) sr
  have a2 := Nat.div_add_mod (k + d - sf) sr
  refine ⟨(k + d - sf) / sr - (k - sf) / sr, ?_⟩
  rw [Nat.mul_sub]
  omega
/-- d is a round of what is said -/
def Rn (v : Nat → Int) (sf sr d : Nat) : Prop := sr % d = 0 ∧ ∀ k, k < sr → v (sf + k) = v (sf + k + d)
theorem Rd.sr_rn {v r : Nat → Int} (hD : ∀ i j, Sm v r i j → Sm v r (i + 1) (j + 1)) {sf sr : Nat} (h : Rd v r sf sr) : Rn v sf sr sr := ⟨Nat.mod_self sr, fun k _ => (h.per hD (k := sf + k) (by omega)).1⟩
/-- a round by one window is one from sf on -/
theorem Rd.win {v r : Nat → Int} (hD : ∀ i j, Sm v r i j → Sm v r (i + 1) (j + 1)) {sf sr : Nat} (h : Rd v r sf sr) {d w : Nat} (hw : sf ≤ w) (hk : ∀ k, k < sr → v (w + k) = v (w + k + d)) : ∀ k, sf ≤ k → v k = v (k + d) := by
  intro k hk0
  -- a place of the window with the same state
  have h1 := h.mod hD hk0
  have hw1 := h.mod hD hw
  -- choose j with (w + j - sf) % sr = (k - sf) % sr
  have l0 := h.1
  have l1 : (k - sf) % sr < sr := Nat.mod_lt _ h.1
  have l2 : (w - sf) % sr < sr := Nat.mod_lt _ h.1
  have hex : ∃ j, j < sr ∧ (w - sf + j) % sr = (k - sf) % sr := by
    by_cases hle : (w - sf) % sr ≤ (k - sf) % sr
    · refine ⟨(k - sf) % sr - (w - sf) % sr, by omega, ?_⟩
      rw [Nat.add_mod, Nat.mod_eq_of_lt (show (k - sf) % sr - (w - sf) % sr < sr by omega), show (w - sf) % sr + ((k - sf) % sr - (w - sf) % sr) = (k - sf) % sr by omega, Nat.mod_mod]
    · refine ⟨(k - sf) % sr + sr - (w - sf) % sr, by omega, ?_⟩
      rw [Nat.add_mod, Nat.mod_eq_of_lt (show (k - sf) % sr + sr - (w - sf) % sr < sr by omega), show (w - sf) % sr + ((k - sf) % sr + sr - (w - sf) % sr) = (k - sf) % sr + sr by omega, Nat.add_mod_right, Nat.mod_mod]
  obtain ⟨j, hj, he⟩ := hex
  have h2 := h.mod hD (k := w + j) (by omega)
  rw [show w + j - sf = w - sf + j by omega, he] at h2
  have h3 : Sm v r k (w + j) := h1.sy.tr h2
  have h4 := h3.on hD d
  rw [h3.1, hk j hj, h4.1]
