/-! PLAIN 49: the component's tokens: numbers, signs, the end -/
set_option maxRecDepth 100000
theorem k_tok (m : fk_M) (z : Nat) (V : Nat → fk_T) (a1 a2 a3 : Int32) (a4 : Option Nat) : ∃ V', f_X6_init (some z) a1 a2 a3 a4 (fk_up m z (oB 5 V)) = some (fk_up m z (oB 5 V')) ∧ V' 0 = tI a1 ∧ V' 1 = tI a2 ∧ V' 2 = tI a3 ∧ V' 3 = tR a4 := by
  refine ⟨fk_set (fk_set (fk_set (fk_set V 0 (tI a1)) 1 (tI a2)) 2 (tI a3)) 3 (tR a4), ?_, rfl, rfl, rfl, rfl⟩
  unfold f_X6_init
  rw [show isS (some z) = some () from rfl, Option.bind_some, pV_of 0 _ (up_eq ..), Option.bind_some, up_up, pV_of 1 _ (up_eq ..), Option.bind_some, up_up, pV_of 2 _ (up_eq ..), Option.bind_some, up_up, pV_of 3 _ (up_eq ..), Option.bind_some, up_up]
/-- a token's cells -/
def TkC (m : fk_M) (z : Nat) (t : Tkn) : Prop := ∃ V s, m z = some (true, oB 5 V) ∧ V 0 = tI (ii t.1) ∧ V 1 = tI (ii t.2.1) ∧ V 2 = tI (ii t.2.2.2.1) ∧ V 3 = tR (some s) ∧ StC m s t.2.2.2.2
theorem StC.cg {m m' : fk_M} {q : Nat} {w : List Int} (h : StC m q w) (hk : ∀ q', m q' ≠ none → (∀ wr V, m q' ≠ some (wr, oB 3 V)) → m' q' = m q') : StC m' q w := by
  obtain ⟨wr, V, v, wv, gv, h1, h2, h3, h4, h5, h6⟩ := h
  refine ⟨wr, V, v, wv, gv, (hk q (by rw [h1]; exact fun e => by cases e) (fun wr' V' e => by rw [h1] at e; cases e)).trans h1, h2, h3, (hk v (by rw [h4]; exact fun e => by cases e) (fun wr' V' e => by rw [h4] at e; cases e)).trans h4, h5, h6⟩
/-- what the next token leaves -/
def NX (o tp : Nat) (n : Int) (m : fk_M) (N kk : Nat) (t : Tkn) (res : Option ((Option Nat) × Nat × Nat × fk_M)) : Prop := ∃ z N' k' m', res = some (some z, N', k', m') ∧ TC m' o tp n t.2.2.1 ∧ TkC m' z t ∧ (N ≤ z ∧ z < N') ∧ N' ≤ N + 5 ∧ (kk ≤ k' ∧ k' ≤ kk + 36) ∧ (∀ q, q < N → q ≠ o → m' q = m q) ∧ ∀ q, N' ≤ q → m' q = none
/-- a token with no word -/
theorem k_tok0 {m0 m : fk_M} {o tp N : Nat} {n : Int} (g : Nat → Nat) (hfr : ∀ q, N ≤ q → m0 q = none) (ho : ∃ V, m0 o = some (true, oB 3 V)) (hm : ∀ q, q ≠ o → m q = m0 q) (h0 : StC m0 (g 0) []) {t : Tkn} (ht : t.2.2.2.2 = []) (hC : TC m o tp n t.2.2.1) (kk : Nat) (V : Nat → fk_T) {kd : Int32} (hk : kd = ii t.1) : ∃ m', f_X6_init (some N) kd (ii t.2.1) (ii t.2.2.2.1) (some (g 0)) (fk_up m N (oB 5 V)) = some m' ∧ NX o tp n m0 N kk t (some (some N, N + 1, kk + 4, m')) := by
  obtain ⟨V', g1, g2, g3, g4, g5⟩ := k_tok m N V kd (ii t.2.1) (ii t.2.2.2.1) (some (g 0))
  obtain ⟨Vo, ho⟩ := ho
  have hoN : o ≠ N := fun e => by
    rw [e, hfr N (Nat.le_refl N)] at ho
    cases ho
  have hlt : o < N := by
    by_cases hc : N ≤ o
    · rw [hfr o hc] at ho; cases ho
    · omega
  refine ⟨_, g1, N, N + 1, kk + 4, _, rfl, hC.cg (up_ne _ _ hoN), ⟨V', g 0, up_eq .., ?_, g3, g4, g5, ?_⟩, by omega, by omega, by omega, fun q q1 q2 => ?_, fun q q1 => ?_⟩
  · rw [g2, hk]
  · rw [ht]
    refine h0.cg (fun q' h1 h2 => ?_)
    have hq : q' ≠ N := fun e => h1 (by rw [e]; exact hfr N (Nat.le_refl N))
    have hqo : q' ≠ o := fun e => h2 true Vo (by rw [e]; exact ho)
    rw [up_ne _ _ hq, hm q' hqo]
  · rw [up_ne _ _ (by omega), hm q q2]
  · rw [up_ne _ _ (by omega), hm q (by omega)]
    exact hfr q (by omega)
