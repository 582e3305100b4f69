/-! PLAIN 15: the component: two who talk -/
set_option maxRecDepth 100000
theorem k_whyBreath (x : Nat) (F : Nat → Int) (P : Nat → Option Nat) (A : Nat → Int → Int) (f l : Nat → Int) (a : Nat → Int → Int) (b : fk_M) {h : Int} {ρ τ σ : Int → Int} (hK : Kq x P b h ρ τ σ) {br : Int} (hb : rg br) : f_X1_whyBreath (some x) (ii br) (hp x F P A f l a b) = some (ii (wy (h = 1) (0 ≤ br ∧ br ≤ 9))) := by
  unfold f_X1_whyBreath
  have e : f_X1_why (some x) (ii h) (ii br) 0 9 (hp x F P A f l a b) = some (ii (wy (h = 1) (0 ≤ br ∧ br ≤ 9))) := k_why _ _ (lo := 0) (hi := 9) (by have := k_h01 hK; omega) hb (by omega) (by omega)
  rw [gkr5, Option.bind_some, ok0, Option.bind_some, k_has hK, e, Option.bind_some]
theorem k_talks (x : Nat) (F : Nat → Int) (P : Nat → Option Nat) (A : Nat → Int → Int) (f l : Nat → Int) (a : Nat → Int → Int) (b : fk_M) {h : Int} {ρ τ σ : Int → Int} (hK : Kq x P b h ρ τ σ) {br : Int} (c d e : Int32) (hb : rg br) : KO x F P A f l a b (s_talks h br c d e) (wy (h = 1) (0 ≤ br ∧ br ≤ 9)) (f_X1_talks (some x) (ii br) c d e (hp x F P A f l a b)) := by
  have hy := wy_rg (h = 1) (0 ≤ br ∧ br ≤ 9)
  unfold f_X1_talks s_talks
  rw [ok0, Option.bind_some, k_whyBreath x F P A f l a b hK hb, Option.bind_some]
  by_cases h0 : wy (h = 1) (0 ≤ br ∧ br ≤ 9) = 0
  · rw [h0, if_pos (show ii 0 ≤ 0 by decide), if_pos rfl]
    refine KO.mk F A (ke.rfl' _) rfl ?_
    rw [ii_tI]
    simp only [k_gets, Option.bind_some, f_X1_talks_J44, ok0, k_well, bn2_some]
    split <;> rfl
  · rw [if_neg h0, if_neg (show ¬ ii (wy (h = 1) (0 ≤ br ∧ br ≤ 9)) ≤ 0 by rw [show (0 : Int32) = ii 0 from rfl, ii_le (by omega) (by omega)]; omega)]
    refine ⟨Fo F (wy (h = 1) (0 ≤ br ∧ br ≤ 9)), A, ?_, Fo_4 .., Fo_3 .., ke.o .., rfl⟩
    simp only [f_X1_refusedBy, Option.bind_some, ok0, k_refused, bn2_some]
    rfl
theorem k_isRest (m : fk_M) (br k : Int) : f_X1_isRest (ii br) (ii k) m = some (if rst br k then 1 else 0) := by
  unfold f_X1_isRest
  simp only [k_gets, Option.bind_some]
  have hx1 : (if ii k ≤ 1 then (0 : Int32) else 1) = on1 k := rfl
  have hx2 : (if (i_rem (ii k) 2) = 1 then (1 : Int32) else 0) = tw1 k := rfl
  simp only [hx1, hx2]
  have hx3 : (if on1 k = 0 then (1 : Int32) else 0) = nt1 (on1 k) := rfl
  have hx4 : (if tw1 k = 0 then (1 : Int32) else 0) = nt1 (tw1 k) := rfl
  simp only [hx3, hx4]
  by_cases c1 : tk (ii br) (on1 k) (tw1 k) < tk (ii br) (nt1 (on1 k)) (tw1 k)
  · rw [if_pos c1, if_neg (fun h => h.1 c1)]
  · by_cases c2 : tk (ii br) (nt1 (tw1 k)) (on1 k) ≤ tk (ii br) (tw1 k) (on1 k)
    · have c12 : rst br k := ⟨c1, c2⟩
      rw [if_neg c1, if_neg (Int32.not_lt.mpr c2), if_pos c12]
    · rw [if_neg c1, if_pos (Int32.not_le.mp c2), if_neg (fun h => c2 h.2)]
theorem rss_1 (br : Int) : (itr (rss br) 4 0 (0, -2)).1 = itr (fun u k => u + (if rst br k then 1 else 0)) 4 0 0 := by
  have h : ∀ (d : Nat) (k : Int) (u : Int × Int), (itr (rss br) d k u).1 = itr (fun u k => u + (if rst br k then 1 else 0)) d k u.1 := by
    intro d
    induction d with
    | zero => intro k u; rfl
    | succ d ih =>
      intro k u
      show (itr (rss br) d (k + 1) (rss br u k)).1 = itr (fun u k => u + (if rst br k then 1 else 0)) d (k + 1) (u.1 + (if rst br k then 1 else 0))
      rw [ih]
      have : (rss br u k).1 = u.1 + (if rst br k then 1 else 0) := by
        unfold rss
        split
        · rfl
        · show u.1 = u.1 + 0
          omega
      rw [this]
  exact h 4 0 (0, -2)
theorem rss_2 (br : Int) : (itr (rss br) 4 0 (0, -2)).2 = (match fn (fun k => rst br k) 4 0 with | some k => rsv k | none => -2) := by
  have h2 : ∀ (d : Nat) (k n v : Int), 0 < n → (itr (rss br) d k (n, v)).2 = v := by
    intro d
    induction d with
    | zero => intro k n v _; rfl
    | succ d ih =>
      intro k n v hn
      show (itr (rss br) d (k + 1) (rss br (n, v) k)).2 = v
      unfold rss
      split
      · rw [if_neg (show ¬ n = 0 by omega)]
        exact ih (k + 1) (n + 1) v (by omega)
      · exact ih (k + 1) n v hn
  have h : ∀ (d : Nat) (k : Int), (itr (rss br) d k (0, -2)).2 = (match fn (fun k => rst br k) d k with | some k => rsv k | none => -2) := by
    intro d
    induction d with
    | zero => intro k; rfl
    | succ d ih =>
      intro k
      show (itr (rss br) d (k + 1) (rss br (0, -2) k)).2 = (match (if rst br k then some k else fn (fun k => rst br k) d (k + 1)) with | some k => rsv k | none => -2)
      unfold rss
      by_cases hc : rst br k
      · rw [if_pos hc, if_pos hc]
        exact h2 d (k + 1) (0 + 1) _ (by omega)
      · rw [if_neg hc, if_neg hc]
        exact ih (k + 1)
  exact h 4 0
theorem k_rests (x : Nat) (F : Nat → Int) (P : Nat → Option Nat) (A : Nat → Int → Int) (f l : Nat → Int) (a : Nat → Int → Int) (b : fk_M) {h : Int} {ρ τ σ : Int → Int} (hK : Kq x P b h ρ τ σ) {br : Int} (hb : rg br) : KO x F P A f l a b (s_rests h br) (wy (h = 1) (0 ≤ br ∧ br ≤ 9)) (f_X1_rests (some x) (ii br) (hp x F P A f l a b)) := by
  have hy := wy_rg (h = 1) (0 ≤ br ∧ br ≤ 9)
  unfold f_X1_rests s_rests
  rw [ok0, Option.bind_some, k_whyBreath x F P A f l a b hK hb, Option.bind_some]
  by_cases h0 : wy (h = 1) (0 ≤ br ∧ br ≤ 9) = 0
  · rw [h0, if_pos (show ii 0 ≤ 0 by decide), if_pos rfl, rss_1]
    refine KO.mk F A (ke.rfl' _) rfl ?_
    refine loop_i0 (fun N u k => f_X1_rests_L21 (some x) (ii br) (hp x F P A f l a b) N (ii u) (ii k)) (fun u k => u + (if rst br k then 1 else 0)) (fun u => some (ii u, hp x (Fo F 0) P A f l a b)) (lo := 0) (hi := 4) ?_ ?_ 4 fk_fuel 0 0 (by omega) (by omega) (by unfold fk_fuel; omega)
    · intro N u
      rw [f_X1_rests_L21, if_pos (show (4 : Int32) ≤ ii 4 by decide), ok0, Option.bind_some, k_well, bn2_some]
    · intro N u k k1 k2
      have hk4 : ¬ (4 : Int32) ≤ ii k := by
        rw [show (4 : Int32) = ii 4 from rfl, ii_le (by omega) (by omega)]
        omega
      rw [f_X1_rests_L21, if_neg hk4, k_isRest, Option.bind_some, show ii k + 1 = ii (k + 1) from ii_add k 1]
      by_cases hc : rst br k
      · rw [if_pos hc, if_pos hc, if_neg (by decide)]
        exact congrArg (fun z => f_X1_rests_L21 (some x) (ii br) (hp x F P A f l a b) N z (ii (k + 1))) (ii_add u 1)
      · rw [if_neg hc, if_neg hc, if_pos rfl]
        exact congrArg (fun z => f_X1_rests_L21 (some x) (ii br) (hp x F P A f l a b) N z (ii (k + 1))) (ii_add u 0)
  · rw [if_neg h0, if_neg (show ¬ ii (wy (h = 1) (0 ≤ br ∧ br ≤ 9)) ≤ 0 by rw [show (0 : Int32) = ii 0 from rfl, ii_le (by omega) (by omega)]; omega), Option.bind_some, k_refused, bn2_some]
    exact KO.ref ..
theorem k_rest (x : Nat) (F : Nat → Int) (P : Nat → Option Nat) (A : Nat → Int → Int) (f l : Nat → Int) (a : Nat → Int → Int) (b : fk_M) {h : Int} {ρ τ σ : Int → Int} (hK : Kq x P b h ρ τ σ) {br : Int} (hb : rg br) : KO x F P A f l a b (s_rest h br) (wy (h = 1) (0 ≤ br ∧ br ≤ 9)) (f_X1_rest (some x) (ii br) (hp x F P A f l a b)) := by
  have hy := wy_rg (h = 1) (0 ≤ br ∧ br ≤ 9)
  unfold f_X1_rest s_rest
  rw [ok0, Option.bind_some, k_whyBreath x F P A f l a b hK hb, Option.bind_some]
  by_cases h0 : wy (h = 1) (0 ≤ br ∧ br ≤ 9) = 0
  · rw [h0, if_pos (show ii 0 ≤ 0 by decide), if_pos rfl, rss_2]
    refine KO.mk F A (ke.rfl' _) rfl ?_
    have hL := loop_fn (fun N k => f_X1_rest_L18 (some x) (ii br) (hp x F P A f l a b) N (ii k)) (fun k => rst br k) (fun k => some (ii (rsv k), hp x (Fo F 0) P A f l a b)) (some (ii (-2), hp x (Fo F 0) P A f l a b)) (lo := 0) (hi := 4) ?_ ?_ 4 fk_fuel 0 (by omega) (by omega) (by unfold fk_fuel; omega)
    · refine Eq.trans hL ?_
      cases fn (fun k => rst br k) 4 0 <;> rfl
    · intro N
      rw [f_X1_rest_L18, if_pos (show (4 : Int32) ≤ ii 4 by decide), ok0, Option.bind_some, k_well, bn2_some]
      rfl
    · intro N k k1 k2
      have hk4 : ¬ (4 : Int32) ≤ ii k := by
        rw [show (4 : Int32) = ii 4 from rfl, ii_le (by omega) (by omega)]
        omega
      rw [f_X1_rest_L18, if_neg hk4, k_isRest, Option.bind_some, show ii k + 1 = ii (k + 1) from ii_add k 1, rsv_ii k1 k2, ok0, Option.bind_some, k_well, bn2_some]
      by_cases hc : rst br k
      · rw [if_pos hc, if_pos hc, if_neg (by decide)]
      · rw [if_neg hc, if_neg hc, if_pos rfl]
  · rw [if_neg h0, if_neg (show ¬ ii (wy (h = 1) (0 ≤ br ∧ br ≤ 9)) ≤ 0 by rw [show (0 : Int32) = ii 0 from rfl, ii_le (by omega) (by omega)]; omega), Option.bind_some, k_refused, bn2_some]
    exact KO.ref ..
