/-! PLAIN 53: the component's next token -/
set_option maxRecDepth 100000
theorem k_sb0 {m : fk_M} {N : Nat} (T : Int → Int) (p : Int) (kk : Nat) : ∃ m', f_J4_init (some N) (N + 1) (kk + 4) (fk_up m N (oB 15 (fk_V0 tyJ4))) = some (N + 2, kk + 20, m') ∧ SB m' N 0 T p ∧ ∀ q, q ≠ N → q ≠ N + 1 → m' q = m q := by
  obtain ⟨V, hV⟩ : ∃ V, V = fk_V0 tyJ4 := ⟨_, rfl⟩
  have hV3 : V 3 = tI 0 := by rw [hV]; rfl
  obtain ⟨m1, hm1⟩ : ∃ m1, m1 = fk_up (fk_up m N (oB 15 V)) (N + 1) (aN 1 16 (fun _ => 0)) := ⟨_, rfl⟩
  have a1 : m1 N = some (true, oB 15 V) := by rw [hm1, up_ne _ _ (by omega)]; exact up_eq ..
  have hn : nA (N + 1) (fk_up m N (oB 15 V)) 1 16 = some m1 := by
    rw [hm1]
    exact nA_of (N + 1) (fk_up m N (oB 15 V)) 1 (v := 16) (by omega) (by omega)
  refine ⟨fk_up (fk_up m1 N (oB 15 (fk_set V 0 (tR (some (N + 1)))))) N (oB 15 (fk_set (fk_set V 0 (tR (some (N + 1)))) 1 (tI 0))), ?_, ⟨fk_set (fk_set V 0 (tR (some (N + 1)))) 1 (tI 0), fun _ => 0, up_eq .., rfl, rfl, hV3, ?_, fun i hi => by omega⟩, fun q q1 q2 => ?_⟩
  · unfold f_J4_init f_J3_init pB
    rw [← hV, show isS (some N) = some () from rfl, Option.bind_some, Option.bind_some, hn, Option.bind_some, pV_of 0 _ a1, Option.bind_some, if_pos (show i_b 0 = 0 by decide), pV_of 1 _ (up_eq ..), Option.bind_some]
    rfl
  · rw [up_ne _ _ (by omega), up_ne _ _ (by omega), hm1]
    exact up_eq ..
  · rw [up_ne _ _ q1, up_ne _ _ q1, hm1, up_ne _ _ q2, up_ne _ _ q1]
theorem k_next {m0 : fk_M} {o tp N : Nat} {T : Int → Int} {n e : Int} (hT : Tx8 T n) (g : Nat → Nat) (hfr : ∀ q, N ≤ q → m0 q = none) (hC : TC m0 o tp n e) (htp : tp ≠ o) (h0 : StC m0 (g 0) []) (hA : TA m0 tp T n) (e0 : 0 ≤ e) (e1 : e ≤ n) (kk : Nat) : NX o tp n m0 N kk (tkn T n e) (f_X4_next g (some o) N kk m0) := by
  have hn := hT.1
  have ho : ∃ V, m0 o = some (true, oB 3 V) := by
    obtain ⟨V, h, -⟩ := hC
    exact ⟨V, h⟩
  have hoN : o < N := by
    obtain ⟨V, h⟩ := ho
    by_cases hc : N ≤ o
    · rw [hfr o hc] at h; cases h
    · omega
  obtain ⟨M, m, s1, s2, s3⟩ := k_skip hT g N kk htp 901 fk_fuel e m0 hC hA e0 e1 (by omega) (by unfold fk_fuel; omega)
  have hs := skp_rg (T := T) (n := n) 901 e e1
  have h32 := skp_no (T := T) (n := n) 901 e (by omega)
  unfold f_X4_next tkn
  rw [s1]
  generalize skp T n 901 e = p at s2 hs h32 ⊢
  have hA' : TA m tp T n := hA.cg (s3 tp htp)
  have hl := k_look s2 hA' hT (by omega) hs.2
  have hc := ch_rg hT (p := p) (by omega)
  have hno := ch_no hT (p := p) (by omega)
  have hin1 := k_in m (v := ch T n p) (lo := 97) (hi := 122) (by omega) (by omega) (by omega)
  have hin2 := k_in m (v := ch T n p) (lo := 48) (hi := 57) (by omega) (by omega) (by omega)
  rw [f_X4_next_L0, s2.o, Option.bind_some, hl, Option.bind_some, if_neg (show ¬ ii (ch T n p) = 32 by rw [show (32 : Int32) = ii 32 from rfl, ii_eq (by omega) (by omega)]; exact h32), s2.at.1, Option.bind_some, Option.bind_some, s2.at.2, Option.bind_some]
  by_cases c1 : ch T n p = -1
  · have hpn := hno.mp c1
    rw [if_pos c1, if_pos (show ii p = ii n by rw [show p = n by omega]), show isS (some N) = some () from rfl, Option.bind_some]
    obtain ⟨m', g1, g2⟩ := k_tok0 (m := m) (tp := tp) (n := n) g hfr ho s3 h0 (t := (1, p, p, 0, [])) rfl s2 kk (fk_V0 tyX6) (kd := 1) rfl
    have g1 : f_X6_init (some N) 1 (ii p) 0 (some (g 0)) (fk_up m N (oB 5 (fk_V0 tyX6))) = some m' := g1
    rw [g1, Option.bind_some]
    exact g2
  have hpn := ch_lt c1
  rw [if_neg c1, if_neg (show ¬ ii p = ii n by rw [ii_eq (by omega) (by omega)]; omega), Option.bind_some, Option.bind_some, show (97 : Int32) = ii 97 from rfl, show (122 : Int32) = ii 122 from rfl, hin1, Option.bind_some]
  by_cases c2 : 97 ≤ ch T n p ∧ ch T n p ≤ 122
  · rw [if_pos c2, if_pos c2, if_neg (show ¬ ii 1 = 0 by decide), show isS (some N) = some () from rfl, Option.bind_some]
    obtain ⟨m26, g1, g2, g3⟩ := k_sb0 (m := m) (N := N) T p kk
    rw [g1, bn3_some]
    exact k_word hT g hfr ho htp hA (by omega) kk 901 fk_fuel p m26 (by omega) (by omega) (by omega) (by unfold fk_fuel; omega) (s2.cg (g3 o (by omega) (by omega))) (by rw [show min 8 (p - p).toNat = 0 by omega]; exact g2) (fun q q1 q2 q3 => (g3 q q2 q3).trans (s3 q q1))
  rw [if_neg c2, if_neg c2, if_pos (show ii 0 = 0 from rfl), Option.bind_some, Option.bind_some, show (48 : Int32) = ii 48 from rfl, show (57 : Int32) = ii 57 from rfl, hin2, Option.bind_some]
  by_cases c3 : 48 ≤ ch T n p ∧ ch T n p ≤ 57
  · rw [if_pos c3, if_pos c3, if_neg (show ¬ ii 1 = 0 by decide)]
    have := k_num hT g hfr ho htp h0 hA (p := p) (by omega) kk 901 fk_fuel p m (by omega) (by omega) (by omega) (by unfold fk_fuel; omega) s2 s3 (fun i i1 i2 => by omega)
    rw [show min 3 (p - p).toNat = 0 by omega] at this
    exact this
  rw [if_neg c3, if_neg c3, if_pos (show ii 0 = 0 from rfl), Option.bind_some, Option.bind_some, Option.bind_some, show (1 : Int32) = ii 1 from rfl, ii_add]
  obtain ⟨m20, g1, g2, g3⟩ := s2.put (p + 1)
  have hz : (if ii (ch T n p) = 59 then (4 : Int32) else 0) = ii (if ch T n p = 59 then 4 else 0) := by
    by_cases h9 : ch T n p = 59
    · rw [if_pos h9, h9, if_pos (show ii 59 = 59 from rfl)]
      rfl
    · rw [if_neg h9, if_neg (by rw [show (59 : Int32) = ii 59 from rfl, ii_eq (by omega) (by omega)]; exact h9)]
      rfl
  obtain ⟨m', k1, k2⟩ := k_tok0 (m := m20) (tp := tp) (n := n) g hfr ho (fun q hq => (g3 q hq).trans (s3 q hq)) h0 (t := (if ch T n p = 59 then 4 else 0, p, p + 1, ch T n p, [])) rfl g2 kk (fk_V0 tyX6) hz
  rw [g1, Option.bind_some, show isS (some N) = some () from rfl, Option.bind_some, k1, Option.bind_some]
  exact k2
