/-! PLAIN 78: the component's pier -/
set_option maxRecDepth 100000
theorem hp_n16 (x : Nat) (F : Nat → Int) (P : Nat → Option Nat) (A : Nat → Int → Int) (f l : Nat → Int) (a : Nat → Int → Int) (b : fk_M) {j : Nat} (hj : j < 24) (w : Bool) (V : Nat → fk_T) : hp x F P A f l a b (x + j) ≠ some (w, oB 16 V) := by
  have h : j = 0 ∨ j = 2 ∨ j = 3 ∨ j = 8 ∨ (j = 1 ∨ j = 4 ∨ j = 5 ∨ j = 6 ∨ j = 7) ∨ (9 ≤ j ∧ j < 24) := by omega
  intro e
  rcases h with rfl | rfl | rfl | rfl | h | ⟨h, h'⟩
  · rw [Nat.add_zero, hp_0] at e
    cases e
  · rw [hp_2] at e
    cases e
  · rw [hp_3] at e
    cases e
  · rw [hp_8] at e
    cases e
  · rw [hp_k _ _ _ _ _ _ _ _ j h] at e
    cases e
  · rw [hp_m _ _ _ _ _ _ _ _ j h h'] at e
    cases e
/-- what the component's pier leaves -/
def KP (x n : Nat) (g : Nat → Nat) (A : Nat → Int → Int) (f l : Nat → Int) (a : Nat → Int → Int) (b : fk_M) (kk : Nat) (h : Int) (ρ τ σ U : Int → Int) (u : Nat) (K : Int → Int) (k : Nat) (r : Except Er Ls) (res : Option (Int32 × Nat × Nat × fk_M)) : Prop := ∃ v n' k' F' P' b', res = some (ii v, n', k', hp x F' P' A f l a b') ∧ (n ≤ n' ∧ n' ≤ n + 7300 ∧ kk ≤ k' ∧ k' ≤ kk + 62400) ∧ (∀ q, Lw x b q → b' q = b q) ∧ F' 1 = 0 ∧ match r with
  | .error e => v = -1 ∧ (F' 4 = 4 ∧ F' 2 = e.1 ∧ F' 3 = e.2) ∧ KI x n' g F' P' b' h ρ τ σ U u K k
  | .ok s => v = s.2.1 2 ∧ (F' 4 = 0 ∧ F' 2 = 0 ∧ F' 3 = -1) ∧ ∀ U' K', KI x n' g F' P' b' 1 s.2.1 s.2.2 s.2.2 U' 0 K' 0
theorem k_pier (x : Nat) (F : Nat → Int) (P : Nat → Option Nat) (A : Nat → Int → Int) (f l : Nat → Int) (a : Nat → Int → Int) (b : fk_M) {n kk : Nat} {g : Nat → Nat} {h : Int} {ρ τ σ U : Int → Int} {u : Nat} {K : Int → Int} {k : Nat} {T : Int → Int} (hK : KI x n g F P b h ρ τ σ U u K k) (hC : Cn x b g) (hw : ∀ q, q < x → ∀ c, b q ≠ some (true, c)) (he : ∃ w gl, b (g 40) = some (w, aQ 0 gl)) (h1 : 0 ≤ F 1 ∧ F 1 ≤ 900) (hA : ∀ t, 0 ≤ t → t < F 1 → A 0 t = s8 (T t)) (hT : ∀ t, 0 ≤ t → t < F 1 → 0 ≤ T t ∧ T t ≤ 255) {m : Int} (hm : rg m) : (¬ (0 ≤ m ∧ m ≤ F 1) → f_X1_pier g (some x) (ii m) n kk (hp x F P A f l a b) = some (ii (-1), n, kk, hp x (u1 (u1 F 4 2) 3 (-1)) P A f l a b)) ∧ ((0 ≤ m ∧ m ≤ F 1) → ∀ φ ψ, Zr φ ψ → KP x n g A f l a b kk h ρ τ σ U u K k (aAll T m φ ψ) (f_X1_pier g (some x) (ii m) n kk (hp x F P A f l a b))) := by
  have hK0 := hK
  obtain ⟨⟨hf, hx, hg, hu, hk, h101, h111⟩, ep, cp, gp, ei, ci, gi, p100, p110, hLp, hLi, hne, -⟩ := hK
  have hin := k_in (hp x F P A f l a b) (v := m) (lo := 0) (hi := F 1) hm (by omega) (by omega)
  unfold f_X1_pier
  rw [gk1, Option.bind_some, show (0 : Int32) = ii 0 from rfl, hin, Option.bind_some]
  refine ⟨fun hc => ?_, fun hc φ ψ hz => ?_⟩
  · rw [if_neg hc, if_pos rfl, ok0, Option.bind_some, show (2 : Int32) = ii 2 from rfl, k_refused, bn2_some]
  rw [if_pos hc, if_neg (show ¬ ii 1 = ii 0 by decide)]
  have hTx : Tx8 T m := ⟨by omega, fun t t0 t1 => hT t t0 (by omega)⟩
  have hfm : ∀ q, n ≤ q → (hp x F P A f l a b) q = none := fun q hq => (hp_out _ _ _ _ _ _ _ _ (Or.inr (by omega))).trans (hf q hq)
  have hTA : TA (hp x F P A f l a b) (x + 1) T m := ⟨true, 900, fun i => ii (A 0 i), hp_k _ _ _ _ _ _ _ _ 1 (Or.inl rfl), by show m ≤ 900; omega, fun i hi => congrArg ii (hA i (by omega) (by omega))⟩
  have hgc : (hp x F P A f l a b) (g 40) = b (g 40) := hp_out _ _ _ _ _ _ _ _ (Or.inl hg)
  obtain ⟨m10, N, k1, m1, o1, o2, o3, o4, o5, o6⟩ := k_open (φ := φ) (ψ := ψ) g hTx hfm (show x + 1 < n by omega) hTA (fun i hi => (hC i hi).c) (show g 40 < n by omega) (by rw [hgc]; exact he) hz (kk + 5 + 3)
  have z8 : gR (fk_up (fk_up (hp x F P A f l a b) n (oB 2 (fk_V0 tyX3))) (n + 1) (oB 3 (fk_V0 tyX4))) (some x) 0 0 = some (some (x + 1)) := gR_of ((up_ne _ _ (by omega)).trans ((up_ne _ _ (by omega)).trans (hp_0 ..))) rfl
  rw [z8, Option.bind_some, show isS (some (n + 1)) = some () from rfl, Option.bind_some, o1, Option.bind_some, show isS (some n) = some () from rfl, Option.bind_some, o2, bn3_some]
  have e1 : m1 = hp x F P A f l a m1 := hp_fix x F P A f l a b (fun j hj => o6 _ (by omega))
  obtain ⟨F1, hF1⟩ : ∃ F1, F1 = u1 F 1 0 := ⟨_, rfl⟩
  obtain ⟨m15, hm15⟩ : ∃ m15, m15 = hp x F1 P A f l a m1 := ⟨_, rfl⟩
  have p15 : pV m1 (some x) 0 1 (tI (ii 0)) = some m15 := by
    rw [hm15, hF1, ← pk1, ← e1]
  have x1 : m1 x = some (true, oB 0 (kV x F P)) := by rw [e1]; exact hp_0 ..
  have e15 : m15 = fk_up m1 x (oB 0 (fk_set (kV x F P) 1 (tI (ii 0)))) := Option.some.inj (p15.symm.trans (pV_of 1 _ x1))
  have kt15 : Kt (fun i => i = 0) m1 m15 := by rw [e15]; exact Kt.up1 0 _ x1 rfl (by decide) (by decide)
  have hNn : n + 7 ≤ N := o3.2.2.2.2.1.2
  have s15 : SS g n (x + 1) T m m15 N (tkn T m 0) (0, 0) := o3.kt kt15 (by decide) (by decide) (by decide) (by decide) (Nat.le_refl N) (fun q hq => by rw [e15, up_ne _ _ (by omega)]; exact o3.2.1 q hq)
  have hF0 := hz.fi
  have P15 : PR g m15 n φ ψ := o4.kt hF0 kt15 (by decide) (by decide) (fun i i1 i2 => by show ¬ i = 0; omega) (by decide) (by decide) (by decide) (by decide) (by decide)
  rw [p15, Option.bind_some, s15.o, Option.bind_some]
  obtain ⟨N2, k2, m2, t2, e2, s2, r1, r2, ⟨r3, r4, r5⟩, r6, r7, r8⟩ := k_read s15 k1 P15 hF0
  rw [r1, bn4_some]
  -- the heap behind the reader
  have lo15 : ∀ q, q < n → Ob x q → m15 q = b q := fun q q1 o => by rw [hm15, hp_out _ _ _ _ _ _ _ _ o, o6 q q1, hp_out _ _ _ _ _ _ _ _ o]
  have hb2 : Lb x n b m2 := fun q q1 o => by
    rcases r6 q q1 with hh | ⟨V, V', hh, hh'⟩
    · exact Or.inl (hh.trans (lo15 q q1 o))
    · exact Or.inr ⟨V, V', by rw [← lo15 q q1 o]; exact hh, hh'⟩
  have hlow : ∀ q, Lw x b q → m2 q = b q := fun q hq => by
    rcases hb2 q (hq.lt (by omega) hf) hq.ob with hh | ⟨V, V', hh, -⟩
    · exact hh
    · rcases hq with hq | ⟨-, w, c, j, hq⟩
      · exact absurd hh (hw q hq _)
      · rw [hq] at hh
        cases hh
  have e2' : m2 = hp x F1 P A f l a m2 := hp_fix x F1 P A f l a m1 (fun j hj => by
    rcases r6 (x + j) (by omega) with hh | ⟨V, V', hh, -⟩
    · rw [hh, hm15]
    · rw [hm15] at hh
      exact absurd hh (hp_n16 x F1 P A f l a m1 hj _ _))
  have hf2 := r2.2.1
  have hrg := r2.rg
  have hnN : n + 7 ≤ N2 := r2.2.2.2.2.1.2
  obtain ⟨zr, ⟨VR, w1, w2, w3, w4, w5, w6, w7⟩, -⟩ := r2.2.2.1
  obtain ⟨F2, hF2⟩ : ∃ F2, F2 = u1 F1 2 e2.1 := ⟨_, rfl⟩
  have p2 : pV m2 (some x) 0 2 (tI (ii e2.1)) = some (hp x F2 P A f l a m2) := by rw [hF2, ← pk2, ← e2']
  rw [gI_of w1 w5, Option.bind_some, p2, Option.bind_some]
  have F2k : ∀ j, j ≠ 1 → j ≠ 2 → F2 j = F j := fun j j1 j2 => by rw [hF2, u1_ne _ _ j2, hF1, u1_ne _ _ j1]
  have F21 : F2 1 = 0 := by rw [hF2, u1_ne _ _ (by omega), hF1, u1_eq]
  have F22 : F2 2 = e2.1 := by rw [hF2, u1_eq]
  rcases (r7.2 rfl) with ⟨hok, h0⟩ | ⟨herr, h0⟩
  rotate_left
  · -- the text is refused
    rw [herr, if_neg (show ¬ e2.1 = 0 by omega), if_pos rfl, show (4 : Int32) = ii 4 from rfl, pk4, Option.bind_some, gI_of ((hp_out _ _ _ _ _ _ _ _ (Or.inr (show x + 24 ≤ n by omega))).trans w1) (w6 h0), Option.bind_some, pk3, Option.bind_some]
    refine ⟨-1, N2, k2, _, P, m2, rfl, by omega, hlow, ?_, rfl, ⟨?_, ?_, ?_⟩, ?_⟩
    · rw [u1_ne _ _ (by omega), u1_ne _ _ (by omega)]
      exact F21
    · rw [u1_ne _ _ (by omega), u1_eq]
    · rw [u1_ne _ _ (by omega), u1_ne _ _ (by omega)]
      exact F22
    · rw [u1_eq]
    · refine (hK0.lb (fun a w c ho ha hc _ => hb2.c hf ho ha hc) hf2 (by omega)).F' ?_ ?_
      · rw [u1_ne _ _ (by omega), u1_ne _ _ (by omega)]
        exact F2k 101 (by omega) (by omega)
      · rw [u1_ne _ _ (by omega), u1_ne _ _ (by omega)]
        exact F2k 111 (by omega) (by omega)
  · -- the pier is taken
    obtain ⟨q1, q2, q3⟩ := r8 h0
    obtain ⟨w7, w2⟩ := aAll_ok hok
    obtain ⟨P3, hP3⟩ : ∃ P3, P3 = uP P 5 (some (n + 2)) := ⟨_, rfl⟩
    rw [hok, if_pos h0, if_neg (show ¬ some (n + 2) = none from fun hh => by cases hh), pkr5, Option.bind_some, ← hP3]
    have eb : fk_up (hp x F2 P3 A f l a m2) N2 (oB 13 (fk_V0 tyX15)) = c4 (hp x F2 P3 A f l a m2) N2 (some (oB 13 (fk_V0 tyX15))) none none none := c4_u _ _ _
    have z28 : gR (fk_up (hp x F2 P3 A f l a m2) N2 (oB 13 (fk_V0 tyX15))) (some x) 0 5 = some (some (n + 2)) := gR_of ((up_ne _ _ (by omega)).trans (hp_0 ..)) (by
      show tR (P3 5) = _
      rw [hP3, uP_eq])
    rw [z28, Option.bind_some, show isS (some N2) = some () from rfl, Option.bind_some, eb, c_init, bn3_some]
    obtain ⟨V3, hV3⟩ : ∃ V3, V3 = fk_set (fk_set (fk_set (fk_set (fk_V0 tyX15) 1 (tR (some (N2 + 1)))) 2 (tR (some (N2 + 2)))) 3 (tR (some (N2 + 3)))) 0 (tR (some (n + 2))) := ⟨_, rfl⟩
    rw [← hV3]
    obtain ⟨b3, hb3⟩ : ∃ b3, b3 = c4 (hp x F2 P3 A f l a m2) N2 (some (oB 13 V3)) (some (aN 1 5 (fun _ => 0))) (some (aN 1 5 (fun _ => 0))) (some (aN 2 25 (fun _ => 0))) := ⟨_, rfl⟩
    rw [← hb3]
    have e3 : b3 = hp x F2 P3 A f l a b3 := hp_fix x F2 P3 A f l a m2 (fun j hj => by rw [hb3, c4_out _ _ _ _ _ (Or.inl (by omega))])
    have hb3o : ∀ q, Ob x q → (q < N2 ∨ N2 + 4 ≤ q) → b3 q = m2 q := fun q o hq => by rw [hb3, c4_out _ _ _ _ _ hq, hp_out _ _ _ _ _ _ _ _ o]
    have hS3 : Sg b3 (n + 2) N2 (fun _ => 0) := by
      rw [hb3]
      exact ⟨⟨V3, c4_0 .., by rw [hV3]; rfl, by rw [hV3]; rfl, by rw [hV3]; rfl, by rw [hV3]; rfl, by rw [hV3]; rfl⟩, ⟨_, c4_1 .., fun i hi => rfl⟩, ⟨_, c4_2 .., fun i hi => rfl⟩, ⟨_, c4_3 .., fun i hi => rfl⟩⟩
    obtain ⟨P4, hP4⟩ : ∃ P4, P4 = uP P3 6 (some N2) := ⟨_, rfl⟩
    have p33 : pV b3 (some x) 0 6 (tR (some N2)) = some (hp x F2 P4 A f l a b3) := by rw [hP4, ← pkr6, ← e3]
    obtain ⟨Vs, v1, v2⟩ := hS3.1
    rw [p33, Option.bind_some, gkr6, Option.bind_some, show P4 6 = some N2 by rw [hP4, uP_eq], isO_of ((hp_out x F2 P4 A f l a b3 (Or.inr (show x + 24 ≤ N2 by omega))).trans v1), Option.bind_some]
    have hxm2 : m2 x = some (true, oB 0 (kV x F1 P)) := by rw [e2']; exact hp_0 ..
    obtain ⟨qf, dk, du, dv, d1, d2, d3⟩ := q2.ext hf2 hxm2
    have hagree : ∀ b', (∀ z, z < N2 → b' z = b3 z) → ∀ z, z < N2 → z ≠ x → hp x F2 P4 A f l a b' z = m2 z := fun b' hb' z z1 z2 => by
      by_cases ho : Ob x z
      · rw [hp_out _ _ _ _ _ _ _ _ ho, hb' z z1, hb3o z ho (Or.inl z1)]
      · obtain ⟨j, rfl⟩ : ∃ j, z = x + j := ⟨z - x, by omega⟩
        have hj : j < 24 ∧ j ≠ 0 := by omega
        rw [show m2 (x + j) = hp x F1 P A f l a m2 (x + j) by rw [← e2']]
        have h5 : j = 2 ∨ j = 3 ∨ j = 8 ∨ (j = 1 ∨ j = 4 ∨ j = 5 ∨ j = 6 ∨ j = 7) ∨ (9 ≤ j ∧ j < 24) := by omega
        rcases h5 with rfl | rfl | rfl | h5 | ⟨h5, h5'⟩
        · rw [hp_2, hp_2]
          have : lV F2 P4 100 = lV F1 P 100 := lV_F (by rw [hF2, u1_ne _ _ (by omega)]) (by rw [hP4, uP_ne _ _ (by omega), hP3, uP_ne _ _ (by omega)]) (by rw [hF2, u1_ne _ _ (by omega)])
          rw [this]
        · rw [hp_3, hp_3]
          have : lV F2 P4 110 = lV F1 P 110 := lV_F (by rw [hF2, u1_ne _ _ (by omega)]) (by rw [hP4, uP_ne _ _ (by omega), hP3, uP_ne _ _ (by omega)]) (by rw [hF2, u1_ne _ _ (by omega)])
          rw [this]
        · rw [hp_8, hp_8]
        · rw [hp_k _ _ _ _ _ _ _ _ j h5, hp_k _ _ _ _ _ _ _ _ j h5]
        · rw [hp_m _ _ _ _ _ _ _ _ j h5 h5', hp_m _ _ _ _ _ _ _ _ j h5 h5']
    obtain ⟨b4, g1, g2, g3⟩ := k_begins x F2 P4 A f l a b3 (r := n) (sg := N2) q3 hS3 (by omega) d1 d2 (fun b' hb' => d3 _ (hagree b' hb'))
    rw [g1, Option.bind_some, gkr7, Option.bind_some, ok2, Option.bind_some]
    -- the lists
    obtain ⟨hepn, wp, hepb⟩ := hLp.lt hf
    obtain ⟨hein, wi', heib⟩ := hLi.lt hf
    have oep := Ob.of_lk hLp hg
    have oei := Ob.of_lk hLi hg
    have hlk : ∀ {q : Nat} {w : Bool} {c : fk_C}, Ob x q → q < n → b q = some (w, c) → tg c ≠ 16 → b4 q = b q := fun {q w c} o hq hh ht => by
      rw [g3 q (Or.inl (by omega)), hb3o q o (Or.inl (by omega)), hb2.c hf o hh ht, hh]
    have hep4 : b4 ep = b ep := hlk oep hepn hepb (show (300 : Nat) ≠ 16 by decide)
    have hei4 : b4 ei = b ei := hlk oei hein heib (show (300 : Nat) ≠ 16 by decide)
    obtain ⟨b5, gl5, f1, f2, f3, f4⟩ := k_clear2 x F2 P4 A f l a b4 (g := g) (u := u) (ep := ep) (cp := cp) (gp := gp) ((F2k 101 (by omega) (by omega)).trans h101) (by rw [hP4, uP_ne _ _ (by omega), hP3, uP_ne _ _ (by omega)]; exact p100) (hLp.cg hep4)
    obtain ⟨F3, hF3⟩ : ∃ F3, F3 = u1 (u1 F2 100 (F2 100 + 1)) 101 0 := ⟨_, rfl⟩
    have hei5 : b5 ei = b ei := by
      by_cases hh : ei = ep
      · have h5 : cp = 0 := by
          by_cases h5 : cp = 0
          · exact h5
          · by_cases h6 : ci = 0
            · have := (hLi.c0 hg).1 h6
              have := (hLp.c0 hg).2 h5
              omega
            · exact absurd hh.symm (hne h5 h6)
        rw [f3 h5, hei4]
      · rw [f2 ei hh, hei4]
    obtain ⟨b6, gl6, i1, i2, i3, i4⟩ := k_clear3 x F3 P4 A f l a b5 (g := g) (u := k) (ep := ei) (cp := ci) (gp := gi) (by rw [hF3, u1_ne _ _ (by omega), u1_ne _ _ (by omega), F2k 111 (by omega) (by omega)]; exact h111) (by rw [hP4, uP_ne _ _ (by omega), hP3, uP_ne _ _ (by omega)]; exact p110) (hLi.cg hei5)
    obtain ⟨F4, hF4⟩ : ∃ F4, F4 = u1 (u1 F3 110 (F3 110 + 1)) 111 0 := ⟨_, rfl⟩
    rw [f1, ← hF3, Option.bind_some, gkr8, Option.bind_some, ok3, Option.bind_some, i1, ← hF4, Option.bind_some, ok0, Option.bind_some]
    have F4k : ∀ j, j ≠ 1 → j ≠ 2 → j ≠ 100 → j ≠ 101 → j ≠ 110 → j ≠ 111 → F4 j = F j := fun j j1 j2 j3 j4 j5 j6 => by rw [hF4, u1_ne _ _ j6, u1_ne _ _ j5, hF3, u1_ne _ _ j4, u1_ne _ _ j3]; exact F2k j j1 j2
    have c0p := hLp.c0 hg
    have c0i := hLi.c0 hg
    -- the last heap against the reader's
    have hb6 : ∀ q, Ob x q → q < N2 → (cp ≠ 0 → q ≠ ep) → (ci ≠ 0 → q ≠ ei) → b6 q = m2 q := fun q o hq he1 he2 => by
      have h6 : b6 q = b5 q := by
        by_cases hh : ci = 0
        · rw [i3 hh]
        · exact i2 q (he2 hh)
      have h5 : b5 q = b4 q := by
        by_cases hh : cp = 0
        · rw [f3 hh]
        · exact f2 q (he1 hh)
      rw [h6, h5, g3 q (Or.inl hq), hb3o q o (Or.inl hq)]
    have hR := q3.rg w7 w2
    obtain ⟨qg, lw, hkk, e4, e6, hG, he4, he6⟩ := Gr.of (x := x) q2 q3 w7 w2 (by omega) hg
    have hepm : cp ≠ 0 → m2 ep = b ep := fun _ => (hb2.c hf oep hepb (show (300 : Nat) ≠ 16 by decide)).trans hepb.symm
    have heim : ci ≠ 0 → m2 ei = b ei := fun _ => (hb2.c hf oei heib (show (300 : Nat) ≠ 16 by decide)).trans heib.symm
    have hG6 : Gr x b6 s2.2.1 s2.2.2 qg lw hkk (n + 2) (n + 6) (n + 3) (n + 4) (n + 5) e4 e6 := by
      have hG' := hG
      obtain ⟨-, ⟨V4, w4, c4', g4, -, -, -, a4, -⟩, -, ⟨V6, w6, c6', g6, -, -, -, d4, -⟩, -, -, -, -, -, -, -, -, -, -, o6', o7'⟩ := hG'
      have l4n : e4 < N2 := by
        by_cases hcc : N2 ≤ e4
        · rw [hf2 _ hcc] at a4; cases a4
        · omega
      have l6n : e6 < N2 := by
        by_cases hcc : N2 ≤ e6
        · rw [hf2 _ hcc] at d4; cases d4
        · omega
      refine hG.kp hR (fun a' w c ho ha hkd => ?_) (hb6 e4 o6' l4n (fun hh => by omega) (fun hh => by omega)) (hb6 e6 o7' l6n (fun hh => by have := c0p.2 hh; omega) (fun hh => by have := c0i.2 hh; omega))
      have han : a' < N2 := by
        by_cases hcc : N2 ≤ a'
        · rw [hf2 _ hcc] at ha; cases ha
        · omega
      rw [hb6 a' ho han (fun hh e => ?_) (fun hh e => ?_)]
      · exact ha
      · rw [e, hepm hh, hepb] at ha
        cases ha
        exact hkd
      · rw [e, heim hh, heib] at ha
        cases ha
        exact hkd
    have hSg : Sg b6 (n + 2) N2 s2.2.2 := by
      refine g2.cg (fun q q1' q2' => ?_) (fun _ _ _ => rfl)
      have h6 : b6 q = b5 q := i2 q (by omega)
      rw [h6, f2 q (by omega)]
    have hf6 : ∀ q, N2 + 4 ≤ q → b6 q = none := fun q hq => by
      rw [i2 q (by omega), f2 q (by omega), g3 q (Or.inr hq), hb3o q (Or.inr (by omega)) (Or.inr hq)]
      exact hf2 q (by omega)
    have p45 : P4 5 = some (n + 2) := by rw [hP4, uP_ne _ _ (by omega), hP3, uP_eq]
    have hpr : f_X1_pairs (some x) (hp x F4 P4 A f l a b6) = some (ii (s2.2.1 2)) := by
      obtain ⟨⟨V, v1, v2, v3, v4, v5, v6, -⟩, ⟨V4, w4, c4', g4, a1, a2, a3, -⟩, -⟩ := hG6
      have y1 : hp x F4 P4 A f l a b6 (n + 2) = some (true, oB 4 V) := (hp_out _ _ _ _ _ _ _ _ (Or.inr (by omega))).trans v1
      have y2 : hp x F4 P4 A f l a b6 (n + 3) = some (true, oB 14 V4) := (hp_out _ _ _ _ _ _ _ _ (Or.inr (by omega))).trans a1
      unfold f_X1_pairs
      rw [gkr5, Option.bind_some, p45, gR_of y1 v6, Option.bind_some, isO_of y2, Option.bind_some, list_sz y2 a3, Option.bind_some]
    rw [hpr, Option.bind_some, Option.bind_some, k_well, bn2_some]
    refine ⟨s2.2.1 2, N2 + 4, k2 + 5 + 35, _, P4, b6, rfl, by omega, fun q hq => ?_, ?_, rfl, ⟨?_, ?_, ?_⟩, fun U' K' => ?_⟩
    · have hqn : q < n := hq.lt (by omega) hf
      rw [hb6 q hq.ob (by omega) (fun hh => hq.ne hepb (by have := c0p.2 hh; omega)) (fun hh => hq.ne heib (by have := c0i.2 hh; omega))]
      exact hlow q hq
    · rw [u1_ne _ _ (by omega), u1_ne _ _ (by omega), hF4, u1_ne _ _ (by omega), u1_ne _ _ (by omega), hF3, u1_ne _ _ (by omega), u1_ne _ _ (by omega)]
      exact F21
    · rw [u1_ne _ _ (by omega), u1_eq]
    · rw [u1_ne _ _ (by omega), u1_ne _ _ (by omega), hF4, u1_ne _ _ (by omega), u1_ne _ _ (by omega), hF3, u1_ne _ _ (by omega), u1_ne _ _ (by omega), F22]
      exact h0
    · rw [u1_eq]
    · refine ⟨⟨hf6, by omega, hg, by omega, by omega, ?_, ?_⟩, ep, cp, gl5, ei, ci, gl6, ?_, ?_, f4.cg ?_, i4, hne, Or.inr ⟨rfl, hR, qg, lw, hkk, n + 2, N2, n + 6, n + 3, n + 4, n + 5, e4, e6, fun _ => 0, fun _ => 0, p45, ?_, hG6, fun hh => ?_, fun hh => ?_, ⟨hSg, by omega⟩, fun i hi => by omega, fun i hi => by omega, fun i j hi => by omega, fun i j hi => by omega⟩⟩
      · rw [u1_ne _ _ (by omega), u1_ne _ _ (by omega), hF4, u1_ne _ _ (by omega), u1_ne _ _ (by omega), hF3, u1_eq]
        rfl
      · rw [u1_ne _ _ (by omega), u1_ne _ _ (by omega), hF4, u1_eq]
        rfl
      · rw [hP4, uP_ne _ _ (by omega), hP3, uP_ne _ _ (by omega)]
        exact p100
      · rw [hP4, uP_ne _ _ (by omega), hP3, uP_ne _ _ (by omega)]
        exact p110
      · by_cases hh : ci = 0
        · rw [i3 hh]
        · refine i2 ep (fun e => ?_)
          by_cases h5 : cp = 0
          · have := c0p.1 h5
            have := c0i.2 hh
            omega
          · exact hne h5 hh e
      · rw [hP4, uP_eq]
      · have := c0p.2 hh
        omega
      · have := c0i.2 hh
        omega
