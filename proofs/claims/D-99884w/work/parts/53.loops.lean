/-! PLAIN 4: loops -/
set_option maxRecDepth 100000
def itr {α : Type} (s : α → Int → α) : Nat → Int → α → α
  | 0, _, u => u
  | d + 1, k, u => itr s d (k + 1) (s u k)
def fn (c : Int → Prop) [DecidablePred c] : Nat → Int → Option Int
  | 0, _ => none
  | d + 1, k => if c k then some k else fn c d (k + 1)
theorem loop_it {α ρ : Type} (L : Nat → α → Int → Option ρ) (s : α → Int → α) (fin : α → Option ρ) (Iv : α → Int → Prop) {lo hi : Int} (hstop : ∀ N u, Iv u hi → L (N + 1) u hi = fin u) (hstep : ∀ N u k, lo ≤ k → k < hi → Iv u k → Iv (s u k) (k + 1) ∧ L (N + 1) u k = L N (s u k) (k + 1)) : ∀ (d N : Nat) (u : α) (k : Int), lo ≤ k → k + d = hi → d < N → Iv u k → L N u k = fin (itr s d k u) ∧ Iv (itr s d k u) hi := by
  intro d
  induction d with
  | zero =>
    intro N u k h1 h2 h3 h4
    obtain ⟨N, rfl⟩ : ∃ M, N = M + 1 := ⟨N - 1, by omega⟩
    obtain rfl : k = hi := by omega
    exact ⟨hstop N u h4, h4⟩
  | succ d ih =>
    intro N u k h1 h2 h3 h4
    obtain ⟨N, rfl⟩ : ∃ M, N = M + 1 := ⟨N - 1, by omega⟩
    obtain ⟨h5, h6⟩ := hstep N u k h1 (by omega) h4
    rw [h6]
    exact ih N (s u k) (k + 1) (by omega) (by omega) (by omega) h5
theorem loop_i0 {α ρ : Type} (L : Nat → α → Int → Option ρ) (s : α → Int → α) (fin : α → Option ρ) {lo hi : Int} (hstop : ∀ N u, L (N + 1) u hi = fin u) (hstep : ∀ N u k, lo ≤ k → k < hi → L (N + 1) u k = L N (s u k) (k + 1)) (d N : Nat) (u : α) (k : Int) (h1 : lo ≤ k) (h2 : k + d = hi) (h3 : d < N) : L N u k = fin (itr s d k u) :=
  (loop_it L s fin (fun _ _ => True) (fun N u _ => hstop N u) (fun N u k h1 h2 _ => ⟨trivial, hstep N u k h1 h2⟩) d N u k h1 h2 h3 trivial).1
theorem loop_fn {ρ : Type} (L : Nat → Int → Option ρ) (c : Int → Prop) [DecidablePred c] (yes : Int → Option ρ) (no : Option ρ) {lo hi : Int} (hstop : ∀ N, L (N + 1) hi = no) (hstep : ∀ N k, lo ≤ k → k < hi → L (N + 1) k = if c k then yes k else L N (k + 1)) : ∀ (d N : Nat) (k : Int), lo ≤ k → k + d = hi → d < N → L N k = (match fn c d k with | some j => yes j | none => no) := by
  intro d
  induction d with
  | zero =>
    intro N k h1 h2 h3
    obtain ⟨N, rfl⟩ : ∃ M, N = M + 1 := ⟨N - 1, by omega⟩
    obtain rfl : k = hi := by omega
    exact hstop N
  | succ d ih =>
    intro N k h1 h2 h3
    obtain ⟨N, rfl⟩ : ∃ M, N = M + 1 := ⟨N - 1, by omega⟩
    rw [hstep N k h1 (by omega)]
    show _ = (match (if c k then some k else fn c d (k + 1)) with | some j => yes j | none => no)
    by_cases h : c k
    · rw [if_pos h, if_pos h]
    · rw [if_neg h, if_neg h]
      exact ih N (k + 1) (by omega) (by omega) (by omega)
theorem itr_cg {α : Type} {s s' : α → Int → α} : ∀ (d : Nat) (k : Int) (u : α), (∀ u j, k ≤ j → j < k + d → s u j = s' u j) → itr s d k u = itr s' d k u := by
  intro d
  induction d with
  | zero => intro k u h; rfl
  | succ d ih =>
    intro k u h
    show itr s d (k + 1) (s u k) = itr s' d (k + 1) (s' u k)
    rw [h u k (by omega) (by omega)]
    exact ih _ _ (fun u j h1 h2 => h u j (by omega) (by omega))
theorem fn_cg {c c' : Int → Prop} [DecidablePred c] [DecidablePred c'] : ∀ (d : Nat) (k : Int), (∀ j, k ≤ j → j < k + d → (c j ↔ c' j)) → fn c d k = fn c' d k := by
  intro d
  induction d with
  | zero => intro k h; rfl
  | succ d ih =>
    intro k h
    show (if c k then some k else fn c d (k + 1)) = (if c' k then some k else fn c' d (k + 1))
    have hk := h k (by omega) (by omega)
    rw [ih (k + 1) (fun j h1 h2 => h j (by omega) (by omega))]
    by_cases hc : c k
    · rw [if_pos hc, if_pos (hk.mp hc)]
    · rw [if_neg hc, if_neg (fun h' => hc (hk.mpr h'))]
/-- a property kept all along -/
theorem itr_iv {α : Type} {s : α → Int → α} (Iv : α → Prop) {lo hi : Int} (h : ∀ u k, lo ≤ k → k < hi → Iv u → Iv (s u k)) : ∀ (d : Nat) (k : Int) (u : α), lo ≤ k → k + d ≤ hi → Iv u → Iv (itr s d k u) := by
  intro d
  induction d with
  | zero => intro k u _ _ hu; exact hu
  | succ d ih => intro k u h1 h2 hu; exact ih (k + 1) (s u k) (by omega) (by omega) (h u k h1 (by omega) hu)
def fd (c : Int → Prop) [DecidablePred c] (d : Nat) (k e : Int) : Int := (fn c d k).getD e
theorem loop_fd {ρ : Type} (L : Nat → Int → Option ρ) (c : Int → Prop) [DecidablePred c] (g : Int → Option ρ) (e : Int) {lo hi : Int} (hstop : ∀ N, L (N + 1) hi = g e) (hstep : ∀ N k, lo ≤ k → k < hi → L (N + 1) k = if c k then g k else L N (k + 1)) (d N : Nat) (k : Int) (h1 : lo ≤ k) (h2 : k + d = hi) (h3 : d < N) : L N k = g (fd c d k e) := by
  rw [loop_fn L c g (g e) hstop hstep d N k h1 h2 h3]
  unfold fd
  cases fn c d k <;> rfl
theorem fd_cg {c c' : Int → Prop} [DecidablePred c] [DecidablePred c'] (d : Nat) (k e : Int) (h : ∀ j, k ≤ j → j < k + d → (c j ↔ c' j)) : fd c d k e = fd c' d k e := by
  unfold fd
  rw [fn_cg d k h]
theorem fn_rg {c : Int → Prop} [DecidablePred c] : ∀ (d : Nat) (k j : Int), fn c d k = some j → (k ≤ j ∧ j < k + d) ∧ c j ∧ ∀ i, k ≤ i → i < j → ¬ c i := by
  intro d
  induction d with
  | zero => intro k j h; cases h
  | succ d ih =>
    intro k j h
    have h : (if c k then some k else fn c d (k + 1)) = some j := h
    by_cases hc : c k
    · rw [if_pos hc] at h
      cases h
      exact ⟨⟨by omega, by omega⟩, hc, fun i h1 h2 => by omega⟩
    · rw [if_neg hc] at h
      obtain ⟨⟨h1, h2⟩, h3, h4⟩ := ih (k + 1) j h
      refine ⟨⟨by omega, by omega⟩, h3, fun i h5 h6 => ?_⟩
      by_cases hi : i = k
      · rw [hi]; exact hc
      · exact h4 i (by omega) h6
theorem fn_no {c : Int → Prop} [DecidablePred c] : ∀ (d : Nat) (k : Int), fn c d k = none → ∀ i, k ≤ i → i < k + d → ¬ c i := by
  intro d
  induction d with
  | zero => intro k h i h1 h2; omega
  | succ d ih =>
    intro k h i h1 h2
    have h : (if c k then some k else fn c d (k + 1)) = none := h
    by_cases hc : c k
    · rw [if_pos hc] at h; cases h
    · rw [if_neg hc] at h
      by_cases hi : i = k
      · rw [hi]; exact hc
      · exact ih (k + 1) h i (by omega) (by omega)
theorem loop_ex {α β ρ : Type} (L : Nat → α → Int → β → Option ρ) (s : α → Int → α) (fin : α → β → Option ρ) (Iv : α → Int → β → Prop) {lo hi : Int} (hstop : ∀ N u y, Iv u hi y → L (N + 1) u hi y = fin u y) (hstep : ∀ N u k y, lo ≤ k → k < hi → Iv u k y → ∃ y', Iv (s u k) (k + 1) y' ∧ L (N + 1) u k y = L N (s u k) (k + 1) y') : ∀ (d N : Nat) (u : α) (k : Int) (y : β), lo ≤ k → k + d = hi → d < N → Iv u k y → ∃ y', L N u k y = fin (itr s d k u) y' ∧ Iv (itr s d k u) hi y' := by
  intro d
  induction d with
  | zero =>
    intro N u k y h1 h2 h3 h4
    obtain ⟨N, rfl⟩ : ∃ M, N = M + 1 := ⟨N - 1, by omega⟩
    obtain rfl : k = hi := by omega
    exact ⟨y, hstop N u y h4, h4⟩
  | succ d ih =>
    intro N u k y h1 h2 h3 h4
    obtain ⟨N, rfl⟩ : ∃ M, N = M + 1 := ⟨N - 1, by omega⟩
    obtain ⟨y', h5, h6⟩ := hstep N u k y h1 (by omega) h4
    rw [h6]
    exact ih N (s u k) (k + 1) y' (by omega) (by omega) (by omega) h5
theorem loop_exf {β ρ : Type} (L : Nat → Int → β → Option ρ) (c : Int → Prop) [DecidablePred c] (g : Int → β → Option ρ) (e : Int) (Iv : β → Prop) {lo hi : Int} (hstop : ∀ N y, Iv y → L (N + 1) hi y = g e y) (hstep : ∀ N k y, lo ≤ k → k < hi → Iv y → ∃ y', Iv y' ∧ L (N + 1) k y = if c k then g k y' else L N (k + 1) y') : ∀ (d N : Nat) (k : Int) (y : β), lo ≤ k → k + d = hi → d < N → Iv y → ∃ y', L N k y = g (fd c d k e) y' ∧ Iv y' := by
  intro d
  induction d with
  | zero =>
    intro N k y h1 h2 h3 h4
    obtain ⟨N, rfl⟩ : ∃ M, N = M + 1 := ⟨N - 1, by omega⟩
    obtain rfl : k = hi := by omega
    exact ⟨y, hstop N y h4, h4⟩
  | succ d ih =>
    intro N k y h1 h2 h3 h4
    obtain ⟨N, rfl⟩ : ∃ M, N = M + 1 := ⟨N - 1, by omega⟩
    obtain ⟨y', h5, h6⟩ := hstep N k y h1 (by omega) h4
    rw [h6]
    by_cases h : c k
    · rw [if_pos h]
      refine ⟨y', ?_, h5⟩
      have : fd c (d + 1) k e = k := by
        unfold fd
        show (if c k then some k else fn c d (k + 1)).getD e = k
        rw [if_pos h]
        rfl
      rw [this]
    · rw [if_neg h]
      have : fd c (d + 1) k e = fd c d (k + 1) e := by
        unfold fd
        show (if c k then some k else fn c d (k + 1)).getD e = _
        rw [if_neg h]
      rw [this]
      exact ih N (k + 1) y' (by omega) (by omega) (by omega) h5
