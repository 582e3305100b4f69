/-! PLAIN 48: the component's tokens: looking, skipping -/
set_option maxRecDepth 100000
theorem z_s8 : ∀ k : Fin 256, ii (s8 (k.val : Int)) &&& 255 = ii (k.val : Int) := by decide +kernel
theorem s8_255 {v : Int} (h0 : 0 ≤ v) (h1 : v ≤ 255) : ii (s8 v) &&& 255 = ii v := by
  obtain ⟨k, rfl⟩ : ∃ k : Nat, v = k := ⟨v.toNat, by omega⟩
  exact z_s8 ⟨k, by omega⟩
/-- the Tokens' cell; the tape's -/
def TC (m : fk_M) (o tp : Nat) (n p : Int) : Prop := ∃ V, m o = some (true, oB 3 V) ∧ V 0 = tR (some tp) ∧ V 1 = tI (ii n) ∧ V 2 = tI (ii p)
def TA (m : fk_M) (tp : Nat) (T : Int → Int) (n : Int) : Prop := ∃ w L gv, m tp = some (w, aN 1 L gv) ∧ n ≤ (L : Int) ∧ ∀ i : Nat, (i : Int) < n → gv i = ii (s8 (T i))
theorem TC.o {m : fk_M} {o tp : Nat} {n p : Int} (h : TC m o tp n p) : isO m (some o) 3 = some () := by
  obtain ⟨V, h1, -⟩ := h
  exact isO_of h1
theorem TC.at {m : fk_M} {o tp : Nat} {n p : Int} (h : TC m o tp n p) : gI m (some o) 3 2 = some (ii p) ∧ gI m (some o) 3 1 = some (ii n) := by
  obtain ⟨V, h1, h2, h3, h4⟩ := h
  exact ⟨gI_of h1 h4, gI_of h1 h3⟩
theorem TC.put {m : fk_M} {o tp : Nat} {n p : Int} (h : TC m o tp n p) (p' : Int) : ∃ m', pV m (some o) 3 2 (tI (ii p')) = some m' ∧ TC m' o tp n p' ∧ ∀ q, q ≠ o → m' q = m q := by
  obtain ⟨V, h1, h2, h3, h4⟩ := h
  exact ⟨_, pV_of 2 _ h1, ⟨_, up_eq .., h2, h3, rfl⟩, fun q hq => up_ne _ _ hq⟩
theorem TC.cg {m m' : fk_M} {o tp : Nat} {n p : Int} (h : TC m o tp n p) (he : m' o = m o) : TC m' o tp n p := by
  obtain ⟨V, h1, h2⟩ := h
  exact ⟨V, he.trans h1, h2⟩
theorem TA.cg {m m' : fk_M} {tp : Nat} {T : Int → Int} {n : Int} (h : TA m tp T n) (he : m' tp = m tp) : TA m' tp T n := by
  obtain ⟨w, L, gv, h1, h2⟩ := h
  exact ⟨w, L, gv, he.trans h1, h2⟩
theorem k_look {m : fk_M} {o tp : Nat} {T : Int → Int} {n p : Int} (hC : TC m o tp n p) (hA : TA m tp T n) (hT : Tx8 T n) (p0 : 0 ≤ p) (p1 : p ≤ n) : f_X4_look (some o) m = some (ii (ch T n p)) := by
  have hn := hT.1
  obtain ⟨a1, a2⟩ := hC.at
  obtain ⟨V, h1, h2, -⟩ := hC
  obtain ⟨w, L, gv, t1, t2, t3⟩ := hA
  unfold f_X4_look ch
  rw [a1, Option.bind_some, a2, Option.bind_some]
  by_cases hp : p < n
  · have hr := hT.2 p p0 hp
    rw [if_neg (by rw [ii_le (by omega) (by omega)]; omega), if_pos hp, gR_of h1 h2, Option.bind_some, Option.bind_some, aI_of t1 p0 (by omega) (by omega), Option.bind_some, t3 p.toNat (by omega), Int.toNat_of_nonneg p0, s8_255 hr.1 hr.2]
  · rw [if_pos (by rw [ii_le (by omega) (by omega)]; omega), if_neg hp]
    rfl
/-- blanks skipped: only the place moves -/
theorem k_skip {o tp : Nat} {T : Int → Int} {n : Int} (hT : Tx8 T n) (g : Nat → Nat) (n1 k1 : Nat) (ho : tp ≠ o) : ∀ (d N : Nat) (p : Int) (m : fk_M), TC m o tp n p → TA m tp T n → 0 ≤ p → p ≤ n → n - p < d → d < N → ∃ N' m', f_X4_next_L0 g (some o) n1 k1 N m = f_X4_next_L0 g (some o) n1 k1 (N' + 1) m' ∧ TC m' o tp n (skp T n d p) ∧ (∀ q, q ≠ o → m' q = m q) := by
  have hn := hT.1
  intro d
  induction d with
  | zero =>
    intro N p m h1 h2 h3 h4 h5 h6
    omega
  | succ d ih =>
    intro N p m h1 h2 h3 h4 h5 h6
    obtain ⟨N, rfl⟩ : ∃ M, N = M + 1 := ⟨N - 1, by omega⟩
    have hr := ch_rg hT h3
    show ∃ N' m', _ ∧ TC m' o tp n (if ch T n p = 32 then skp T n d (p + 1) else p) ∧ _
    by_cases hc : ch T n p = 32
    · have hlt := ch_lt (T := T) (n := n) (p := p) (by omega)
      obtain ⟨m1, g1, g2, g3⟩ := h1.put (p + 1)
      obtain ⟨N', m', k1, k2, k3⟩ := ih N (p + 1) m1 g2 (h2.cg (g3 tp ho)) (by omega) (by omega) (by omega) (by omega)
      rw [if_pos hc]
      refine ⟨N', m', ?_, k2, fun q hq => (k3 q hq).trans (g3 q hq)⟩
      rw [← k1, f_X4_next_L0, h1.o, Option.bind_some, k_look h1 h2 hT h3 h4, Option.bind_some, hc, if_pos (show ii 32 = 32 from rfl), h1.at.1, Option.bind_some, show (1 : Int32) = ii 1 from rfl, ii_add, g1, Option.bind_some]
    · rw [if_neg hc]
      exact ⟨N, m, rfl, h1, fun _ _ => rfl⟩
