/-! PLAIN 9h: rounds: what both look for -/
set_option maxRecDepth 100000
theorem Rd.uni {v r : Nat → Int} {sf sr sf' sr' : Nat} (h : Rd v r sf sr) (h' : Rd v r sf' sr') : sf = sf' ∧ sr = sr' := by
  have a1 := h.1
  have a2 := h'.1
  have e : sf + sr = sf' + sr' := by
    by_cases h1 : sf + sr < sf' + sr'
    · exact absurd h.2.1 (h'.2.2 sf (sf + sr) (by omega) h1)
    · by_cases h2 : sf' + sr' < sf + sr
      · exact absurd h'.2.1 (h.2.2 sf' (sf' + sr') (by omega) h2)
      · omega
  have s1 := h.2.1
  have s2 := h'.2.1
  rw [← e] at s2
  have s3 := s1.tr s2.sy
  have e2 : sf = sf' := by
    by_cases h1 : sf < sf'
    · exact absurd s3 (h.2.2 sf sf' h1 (by omega))
    · by_cases h2 : sf' < sf
      · exact absurd s3.sy (h.2.2 sf' sf h2 (by omega))
      · omega
  exact ⟨e2, by omega⟩
theorem Rd.bd {v r : Nat → Int} {sf sr : Nat} (h : Rd v r sf sr) (M : Nat) (c : Nat → Nat) (hc : ∀ k, c k < M) (hi : ∀ i j, c i = c j → Sm v r i j) : sf + sr ≤ M :=
  pigeon M (sf + sr) c (fun i _ => hc i) (fun i j h1 h2 he => by
    by_cases hl : i < j
    · exact absurd (hi i j he) (h.2.2 i j hl h2)
    · by_cases hg : j < i
      · exact absurd (hi j i he.symm) (h.2.2 j i hg h1)
      · omega)
theorem Rd.ex {v r : Nat → Int} (M : Nat) (c : Nat → Nat) (hc : ∀ k, c k < M) (hi : ∀ i j, c i = c j → Sm v r i j) : ∃ sf sr, Rd v r sf sr := by
  have hn : ∀ n : Nat, (∀ i j, i < j → j < n → ¬ Sm v r i j) ∨ ∃ sf sr, Rd v r sf sr := by
    intro n
    induction n with
    | zero => exact Or.inl (fun i j h1 h2 => by omega)
    | succ n ih =>
      rcases ih with ih | ih
      · by_cases he : ∃ i, i < n ∧ Sm v r i n
        · obtain ⟨i, h1, h2⟩ := he
          refine Or.inr ⟨i, n - i, by omega, ?_, ?_⟩
          · rw [show i + (n - i) = n by omega]
            exact h2
          · rw [show i + (n - i) = n by omega]
            exact ih
        · refine Or.inl (fun i j h1 h2 h3 => ?_)
          by_cases hj : j = n
          · subst hj
            exact he ⟨i, h1, h3⟩
          · exact ih i j h1 (by omega) h3
      · exact Or.inr ih
  rcases hn (M + 1) with h | h
  · have := pigeon M (M + 1) c (fun i _ => hc i) (fun i j h1 h2 he => by
      by_cases hl : i < j
      · exact absurd (hi i j he) (h i j hl h2)
      · by_cases hg : j < i
        · exact absurd (hi j i he.symm) (h j i hg h1)
        · omega)
    omega
  · exact h
/-- the least round -/
def Ld (v : Nat → Int) (sf sr d : Nat) : Prop := 0 < d ∧ Rn v sf sr d ∧ ∀ i, 0 < i → i < d → ¬ Rn v sf sr i
theorem Ld.le {v r : Nat → Int} (hD : ∀ i j, Sm v r i j → Sm v r (i + 1) (j + 1)) {sf sr d : Nat} (h : Rd v r sf sr) (hl : Ld v sf sr d) : d ≤ sr := by
  by_cases hlt : sr < d
  · exact absurd (h.sr_rn hD) (hl.2.2 sr h.1 hlt)
  · omega
theorem Ld.ex {v r : Nat → Int} (hD : ∀ i j, Sm v r i j → Sm v r (i + 1) (j + 1)) {sf sr : Nat} (h : Rd v r sf sr) : ∃ d, Ld v sf sr d := by
  have hn : ∀ n : Nat, (∀ i, 0 < i → i < n → ¬ Rn v sf sr i) ∨ ∃ d, Ld v sf sr d := by
    intro n
    induction n with
    | zero => exact Or.inl (fun i h1 h2 => by omega)
    | succ n ih =>
      rcases ih with ih | ih
      · by_cases he : 0 < n ∧ Rn v sf sr n
        · exact Or.inr ⟨n, he.1, he.2, ih⟩
        · refine Or.inl (fun i h1 h2 h3 => ?_)
          by_cases hj : i = n
          · subst hj
            exact he ⟨h1, h3⟩
          · exact ih i h1 (by omega) h3
      · exact Or.inr ih
  rcases hn (sr + 1) with h1 | h1
  · exact absurd (h.sr_rn hD) (h1 sr h.1 (by omega))
  · exact h1
theorem Ld.uni {v : Nat → Int} {sf sr d d' : Nat} (h : Ld v sf sr d) (h' : Ld v sf sr d') : d = d' := by
  by_cases h1 : d < d'
  · exact absurd h.2.1 (h'.2.2 d h.1 h1)
  · by_cases h2 : d' < d
    · exact absurd h'.2.1 (h.2.2 d' h'.1 h2)
    · omega
/-- down as long as what is said comes again -/
def fr (v : Nat → Int) (d : Nat) : Nat → Nat
  | 0 => 0
  | n + 1 => if v n = v (n + d) then fr v d n else n + 1
theorem fr_le (v : Nat → Int) (d : Nat) : ∀ n, fr v d n ≤ n := by
  intro n
  induction n with
  | zero => exact Nat.le_refl 0
  | succ n ih =>
    show (if v n = v (n + d) then fr v d n else n + 1) ≤ n + 1
    split <;> omega
theorem fr_per (v : Nat → Int) (d : Nat) : ∀ n k, fr v d n ≤ k → k < n → v k = v (k + d) := by
  intro n
  induction n with
  | zero => intro k _ h; omega
  | succ n ih =>
    intro k h1 h2
    have h1 : (if v n = v (n + d) then fr v d n else n + 1) ≤ k := h1
    by_cases hc : v n = v (n + d)
    · rw [if_pos hc] at h1
      by_cases hk : k = n
      · subst hk
        exact hc
      · exact ih k h1 (by omega)
    · rw [if_neg hc] at h1
      omega
theorem fr_up {v : Nat → Int} {d sf : Nat} (h : ∀ k, sf ≤ k → v k = v (k + d)) : ∀ e, fr v d (sf + e) = fr v d sf := by
  intro e
  induction e with
  | zero => rfl
  | succ e ih =>
    show (if v (sf + e) = v (sf + e + d) then fr v d (sf + e) else sf + e + 1) = _
    rw [if_pos (h (sf + e) (by omega)), ih]
def Rz (v r : Nat → Int) (z : Nat × Nat) : Prop := ∃ sf sr, Rd v r sf sr ∧ Ld v sf sr z.2 ∧ z.1 = fr v z.2 sf
theorem Rz.uni {v r : Nat → Int} {z z' : Nat × Nat} (h : Rz v r z) (h' : Rz v r z') : z = z' := by
  obtain ⟨sf, sr, h1, h2, h3⟩ := h
  obtain ⟨sf', sr', h1', h2', h3'⟩ := h'
  obtain ⟨rfl, rfl⟩ := h1.uni h1'
  have e := h2.uni h2'
  have e1 : z.1 = z'.1 := by rw [h3, h3', e]
  exact Prod.ext e1 e
theorem per_mul {v : Nat → Int} {d w : Nat} (h : ∀ k, w ≤ k → v k = v (k + d)) {k : Nat} (hk : w ≤ k) : ∀ m, v k = v (k + m * d) := by
  intro m
  induction m with
  | zero => rw [Nat.zero_mul]; rfl
  | succ m ih =>
    rw [ih, h (k + m * d) (by omega), show k + m * d + d = k + (m + 1) * d by rw [Nat.succ_mul]; omega]
theorem per_mod {v : Nat → Int} {d w : Nat} (h : ∀ k, w ≤ k → v k = v (k + d)) {n : Nat} (hn : w ≤ n) : v (w + (n - w) % d) = v n := by
  have e := Nat.div_add_mod (n - w) d
  have := per_mul h (k := w + (n - w) % d) (by omega) ((n - w) / d)
  rw [this, show w + (n - w) % d + (n - w) / d * d = n by rw [Nat.mul_comm]; omega]
theorem Rd.rnd {v r : Nat → Int} (hD : ∀ i j, Sm v r i j → Sm v r (i + 1) (j + 1)) {sf sr d : Nat} (h : Rd v r sf sr) (hl : Ld v sf sr d) : ∀ k, sf ≤ k → v k = v (k + d) := h.win hD (Nat.le_refl sf) (fun k hk => hl.2.1.2 k hk)
theorem Rd.frp {v r : Nat → Int} (hD : ∀ i j, Sm v r i j → Sm v r (i + 1) (j + 1)) {sf sr d : Nat} (h : Rd v r sf sr) (hl : Ld v sf sr d) : ∀ k, fr v d sf ≤ k → v k = v (k + d) := fun k hk => by
  by_cases h1 : k < sf
  · exact fr_per v d sf k hk h1
  · exact h.rnd hD hl k (by omega)
/-- a round by a later window -/
theorem Rd.rnw {v r : Nat → Int} (hD : ∀ i j, Sm v r i j → Sm v r (i + 1) (j + 1)) {sf sr d w : Nat} (h : Rd v r sf sr) (hw : sf ≤ w) : Rn v sf sr d ↔ (sr % d = 0 ∧ ∀ k, k < sr → v (w + k) = v (w + k + d)) := by
  constructor
  · intro h1
    have := h.win hD (Nat.le_refl sf) h1.2
    exact ⟨h1.1, fun k hk => this (w + k) (by omega)⟩
  · intro h1
    have := h.win hD hw h1.2
    exact ⟨h1.1, fun k hk => this (sf + k) (by omega)⟩
/-! this row -/
def ev (ρ : Int → Int) (p : Int) : Int := if ρ (13 + p) = 0 then 1 else ρ (13 + p)
def rs (ρ σ : Int → Int) (p : Int) (k : Nat) : Int := (σ 35 + k) % ev ρ p
theorem ev_rg {ρ τ σ : Int → Int} (h : Rg ρ τ σ) {p : Int} (h0 : 0 ≤ p) (h1 : p < ρ 2) : 1 ≤ ev ρ p ∧ ev ρ p ≤ 9 := by
  have hq := h.pr h0 h1
  unfold ev
  split <;> omega
theorem rs_rg {ρ τ σ : Int → Int} (h : Rg ρ τ σ) {p : Int} (h0 : 0 ≤ p) (h1 : p < ρ 2) (k : Nat) : 0 ≤ rs ρ σ p k ∧ rs ρ σ p k < ev ρ p := by
  have he := ev_rg h h0 h1
  exact ⟨Int.emod_nonneg _ (by omega), Int.emod_lt_of_pos _ (by omega)⟩
theorem ts_D {ρ σ : Int → Int} {p : Int} (i j : Nat) (h : Sm (ts ρ σ p) (rs ρ σ p) i j) : Sm (ts ρ σ p) (rs ρ σ p) (i + 1) (j + 1) := by
  obtain ⟨h1, h2⟩ := h
  have hr : (σ 35 + ((i : Int) + 1)) % ev ρ p = (σ 35 + ((j : Int) + 1)) % ev ρ p := by
    have h2 : (σ 35 + (i : Int)) % ev ρ p = (σ 35 + (j : Int)) % ev ρ p := h2
    rw [← Int.add_assoc, ← Int.add_assoc, Int.add_emod, h2, ← Int.add_emod]
  refine ⟨?_, hr⟩
  show bh ρ p (ts ρ σ p i) (σ (5 + p)) (ρ (13 + p)) (σ 35 + ((i : Int) + 1)) 0 = bh ρ p (ts ρ σ p j) (σ (5 + p)) (ρ (13 + p)) (σ 35 + ((j : Int) + 1)) 0
  rw [h1]
  unfold bh
  by_cases h0 : ρ (13 + p) = 0
  · simp only [h0, Int.lt_irrefl, false_and, if_false]
  · have he : ev ρ p = ρ (13 + p) := if_neg h0
    rw [he] at hr
    rw [hr]
theorem cdn {a b a' b' e : Nat} (hb : b < e) (hb' : b' < e) (h : a * e + b = a' * e + b') : a = a' ∧ b = b' := by
  have e1 : a = a' := by
    by_cases h1 : a < a'
    · have := Nat.mul_le_mul_right e (show a + 1 ≤ a' from h1)
      rw [Nat.succ_mul] at this
      omega
    · by_cases h2 : a' < a
      · have := Nat.mul_le_mul_right e (show a' + 1 ≤ a from h2)
        rw [Nat.succ_mul] at this
        omega
      · omega
  subst e1
  exact ⟨rfl, by omega⟩
theorem ts_Rd {ρ τ σ : Int → Int} (h : Rg ρ τ σ) {p : Int} (h0 : 0 ≤ p) (h1 : p < ρ 2) : ∃ sf sr : Nat, Rd (ts ρ σ p) (rs ρ σ p) sf sr ∧ ((sf + sr : Nat) : Int) ≤ ev ρ p * (ρ 0 + 1) ∧ sf + sr ≤ 900 := by
  have he := ev_rg h h0 h1
  have hw := h.wd
  have hc : ∀ k, (ts ρ σ p k).toNat * (ev ρ p).toNat + (rs ρ σ p k).toNat < (ev ρ p).toNat * ((ρ 0).toNat + 1) := by
    intro k
    have a1 := ts_rg h h0 h1 k
    have a2 := rs_rg h h0 h1 k
    have a3 := Nat.mul_le_mul_right (ev ρ p).toNat (show (ts ρ σ p k).toNat + 1 ≤ (ρ 0).toNat + 1 by omega)
    rw [Nat.succ_mul] at a3
    rw [Nat.mul_comm (ev ρ p).toNat]
    omega
  have hi : ∀ i j, (ts ρ σ p i).toNat * (ev ρ p).toNat + (rs ρ σ p i).toNat = (ts ρ σ p j).toNat * (ev ρ p).toNat + (rs ρ σ p j).toNat → Sm (ts ρ σ p) (rs ρ σ p) i j := by
    intro i j hij
    have a1 := ts_rg h h0 h1 i
    have a2 := rs_rg h h0 h1 i
    have a3 := ts_rg h h0 h1 j
    have a4 := rs_rg h h0 h1 j
    obtain ⟨b1, b2⟩ := cdn (by omega) (by omega) hij
    exact ⟨by omega, by omega⟩
  obtain ⟨sf, sr, hd⟩ := Rd.ex _ _ hc hi
  have hb := hd.bd _ _ hc hi
  refine ⟨sf, sr, hd, ?_, ?_⟩
  · have e1 : ((ev ρ p).toNat : Int) = ev ρ p := Int.toNat_of_nonneg (by omega)
    have e2 : ((ρ 0).toNat : Int) = ρ 0 := Int.toNat_of_nonneg (by omega)
    have e3 : (((ev ρ p).toNat * ((ρ 0).toNat + 1) : Nat) : Int) = ev ρ p * (ρ 0 + 1) := by
      rw [Int.natCast_mul, Int.natCast_add, e1, e2]
      rfl
    rw [← e3]
    exact Int.ofNat_le.mpr hb
  · have := Nat.mul_le_mul (show (ev ρ p).toNat ≤ 9 by omega) (show (ρ 0).toNat + 1 ≤ 100 by omega)
    omega
noncomputable def rz (ρ σ : Int → Int) (p : Int) : Nat × Nat := Classical.epsilon (Rz (ts ρ σ p) (rs ρ σ p))
theorem rz_of {ρ σ : Int → Int} {p : Int} {z : Nat × Nat} (h : Rz (ts ρ σ p) (rs ρ σ p) z) : rz ρ σ p = z := (Classical.epsilon_spec (p := Rz (ts ρ σ p) (rs ρ σ p)) ⟨z, h⟩).uni h
/-- all of a round's numbers -/
def Rall (ρ σ : Int → Int) (p : Int) (sf sr d rf : Nat) : Prop := Rd (ts ρ σ p) (rs ρ σ p) sf sr ∧ ((sf + sr : Nat) : Int) ≤ ev ρ p * (ρ 0 + 1) ∧ sf + sr ≤ 900 ∧ Ld (ts ρ σ p) sf sr d ∧ d ≤ sr ∧ rf = fr (ts ρ σ p) d sf ∧ rf ≤ sf ∧ rz ρ σ p = (rf, d)
theorem Rall.ex {ρ τ σ : Int → Int} (h : Rg ρ τ σ) {p : Int} (h0 : 0 ≤ p) (h1 : p < ρ 2) : ∃ sf sr d rf, Rall ρ σ p sf sr d rf := by
  obtain ⟨sf, sr, hd, hb, hc⟩ := ts_Rd h h0 h1
  obtain ⟨d, hl⟩ := Ld.ex (fun i j => ts_D i j) hd
  exact ⟨sf, sr, d, fr (ts ρ σ p) d sf, hd, hb, hc, hl, hl.le (fun i j => ts_D i j) hd, rfl, fr_le .., rz_of ⟨sf, sr, hd, hl, rfl⟩⟩
noncomputable def s_settles (h : Int) (ρ σ : Int → Int) (p : Int) : Int := if (h = 1 ∧ 0 ≤ p ∧ p < ρ 2) then ((rz ρ σ p).1 : Int) else -1
noncomputable def s_round (h : Int) (ρ σ : Int → Int) (p : Int) : Int := if (h = 1 ∧ 0 ≤ p ∧ p < ρ 2) then ((rz ρ σ p).2 : Int) else -1
def s_saysLate (h : Int) (ρ σ : Int → Int) (p n : Int) : Int := if wy (h = 1 ∧ 0 ≤ p ∧ p < ρ 2) (0 ≤ n ∧ n ≤ 2000000000) = 0 then ts ρ σ p n.toNat else -1
noncomputable def s_roundMost (h : Int) (ρ σ : Int → Int) (p : Int) : Int := if (h = 1 ∧ 0 ≤ p ∧ p < ρ 2) then itr (fun u k => if ts ρ σ p ((rz ρ σ p).1 + k.toNat) ≤ u then u else ts ρ σ p ((rz ρ σ p).1 + k.toNat)) (rz ρ σ p).2 0 (ts ρ σ p (rz ρ σ p).1) else -1
noncomputable def s_roundLeast (h : Int) (ρ σ : Int → Int) (p : Int) : Int := if (h = 1 ∧ 0 ≤ p ∧ p < ρ 2) then itr (fun u k => if u ≤ ts ρ σ p ((rz ρ σ p).1 + k.toNat) then u else ts ρ σ p ((rz ρ σ p).1 + k.toNat)) (rz ρ σ p).2 0 (ts ρ σ p (rz ρ σ p).1) else -1
