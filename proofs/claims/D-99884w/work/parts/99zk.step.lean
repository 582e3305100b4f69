/-! PLAIN 80: a call of the law: what it reads, how it goes on -/
set_option maxRecDepth 100000
/-- the script, the texts, the empty array, as they are from the start -/
def Sc (x sc L : Nat) (xs : Nat → Int32) (b0 : fk_M) : Prop := sc < x ∧ L ≤ 384 ∧ ∃ w, b0 sc = some (w, aN 0 L xs)
def B0 (x : Nat) (g : Nat → Nat) (b0 : fk_M) : Prop := (∀ b, Low x b0 b → Cn x b g) ∧ (∀ q, q < x → ∀ c, b0 q ≠ some (true, c)) ∧ g 40 < x ∧ ∃ w gl, b0 (g 40) = some (w, aQ 0 gl)
def Gz {ρ : Type} (x : Nat) (g : Nat → Nat) (b0 : fk_M) (R : Int32 → Nat → Nat → fk_M → Option ρ) (i : Int) (n k : Nat) (res : Option ρ) : Prop := ∃ n' k' m', res = R (ii i + 6) n' k' m' ∧ Inv x n' g b0 m' ∧ (n ≤ n' ∧ n' ≤ n + 7300 ∧ k ≤ k' ∧ k' ≤ k + 62400)
section STP
variable {x sc L n k : Nat} {xs : Nat → Int32} {g : Nat → Nat} {b0 m : fk_M} {i : Int} {R : Int32 → Nat → Nat → fk_M → Option (Int32 × Nat × Nat × fk_M)}
theorem Sc.len (h : Sc x sc L xs b0) (hl : Low x b0 m) : aLn m (some sc) = some (ii L) := by
  obtain ⟨h1, h2, w, h3⟩ := h
  exact aLn_ofI ((hl sc h1).trans h3)
theorem Sc.at (h : Sc x sc L xs b0) (hl : Low x b0 m) {j : Int} (j0 : 0 ≤ j) (j1 : j < L) : aI m (some sc) 0 (ii j) = some (xs j.toNat) := by
  obtain ⟨h1, h2, w, h3⟩ := h
  exact aI_of ((hl sc h1).trans h3) j0 (by omega) (by omega)
/-- five numbers behind a place -/
theorem Sc.five (h : Sc x sc L xs b0) (i0 : 0 ≤ i) (i1 : i + 6 ≤ L) : ∃ s1 s2 s3 s4 s5 : Int, (rg s1 ∧ rg s2 ∧ rg s3 ∧ rg s4 ∧ rg s5) ∧ ∀ m, Low x b0 m → aI m (some sc) 0 (ii i + 1) = some (ii s1) ∧ aI m (some sc) 0 (ii i + 2) = some (ii s2) ∧ aI m (some sc) 0 (ii i + 3) = some (ii s3) ∧ aI m (some sc) 0 (ii i + 4) = some (ii s4) ∧ aI m (some sc) 0 (ii i + 5) = some (ii s5) := by
  have p := fun c : Int => ii_pk (xs (i + c).toNat)
  refine ⟨_, _, _, _, _, ⟨(p 1).2, (p 2).2, (p 3).2, (p 4).2, (p 5).2⟩, fun m hl => ⟨?_, ?_, ?_, ?_, ?_⟩⟩
  · rw [← (p 1).1, show (1 : Int32) = ii 1 from rfl, ii_add]
    exact h.at hl (by omega) (by omega)
  · rw [← (p 2).1, show (2 : Int32) = ii 2 from rfl, ii_add]
    exact h.at hl (by omega) (by omega)
  · rw [← (p 3).1, show (3 : Int32) = ii 3 from rfl, ii_add]
    exact h.at hl (by omega) (by omega)
  · rw [← (p 4).1, show (4 : Int32) = ii 4 from rfl, ii_add]
    exact h.at hl (by omega) (by omega)
  · rw [← (p 5).1, show (5 : Int32) = ii 5 from rfl, ii_add]
    exact h.at hl (by omega) (by omega)
theorem cmp_self (z : Int64) : lg_cmp z z = 0 := by
  unfold lg_cmp
  simp
theorem IV.f0 {F : Nat → Int} {P : Nat → Option Nat} {A : Nat → Int → Int} {f : Nat → Int} {a : Nat → Int → Int} {b : fk_M} {u k : Nat} (h : IV x n g b0 F P A f a b u k) (v : Int) : IV x n g b0 F P A (u1 f 0 v) a b u k := h
theorem hp_sw {F F2 : Nat → Int} {P P2 : Nat → Option Nat} {A : Nat → Int → Int} {f l : Nat → Int} {a : Nat → Int → Int} {b b2 : fk_M} (h : hp x F P A f l a b = hp x F2 P2 A f l a b2) (f' l' : Nat → Int) (a' : Nat → Int → Int) : hp x F P A f' l' a' b = hp x F2 P2 A f' l' a' b2 := by
  funext q
  have hq := congrFun h q
  by_cases ho : Ob x q
  · rw [hp_out _ _ _ _ _ _ _ _ ho, hp_out _ _ _ _ _ _ _ _ ho] at hq ⊢
    exact hq
  · obtain ⟨j, rfl⟩ : ∃ j, q = x + j := ⟨q - x, by omega⟩
    have h5 : j = 0 ∨ j = 2 ∨ j = 3 ∨ j = 8 ∨ (j = 1 ∨ j = 4 ∨ j = 5 ∨ j = 6 ∨ j = 7) ∨ (9 ≤ j ∧ j < 24) := by omega
    rcases h5 with rfl | rfl | rfl | rfl | h5 | ⟨h5, h5'⟩
    · rw [Nat.add_zero, hp_0, hp_0] at hq ⊢
      exact hq
    · rw [hp_2, hp_2] at hq ⊢
      exact hq
    · rw [hp_3, hp_3] at hq ⊢
      exact hq
    · rw [hp_8, hp_8]
    · rw [hp_k _ _ _ _ _ _ _ _ j h5, hp_k _ _ _ _ _ _ _ _ j h5]
    · rw [hp_m _ _ _ _ _ _ _ _ j h5 h5', hp_m _ _ _ _ _ _ _ _ j h5 h5']
end STP

/-! fields of the two objects, at their start -/
def V1_ (k : Nat) : fk_T := if 20 ≤ k then tI 0 else fk_V0 tyX1 k
def V2_ (k : Nat) : fk_T := if 42 ≤ k then tI 0 else fk_V0 tyX2 k
theorem fk_R.sw {G : fk_G} {b0 n a ci N : Nat} {m : fk_M} {H : Heap} {V V' : Nat → fk_T} (hh : fk_R G b0 n (fk_up m a (oB ci V)) H) (hc : ∀ r : vw_C, fk_cl[ci]? = some r → r.2.2 = N) (he : ∀ k, k < N → V' k = V k) : fk_R G b0 n (fk_up m a (oB ci V')) H := by
  refine ⟨hh.1, hh.2.1, fun q w e hq => ?_⟩
  by_cases hqa : q = a
  · subst hqa
    rw [up_eq] at hq
    cases hq
    obtain ⟨⟨r, h1, cell, h2, h3, h4, h5⟩, h6⟩ := hh.2.2 q true (oB ci V) (up_eq ..)
    refine ⟨⟨r, h1, cell, h2, h3, h4, fun k hk => ?_⟩, h6⟩
    show cell.slots[G.1.2 ci k]? = some (fk_v (V' k))
    rw [he k (by rw [hc r h1] at hk; exact hk)]
    exact h5 k hk
  · rw [up_ne _ _ hqa] at hq
    exact hh.2.2 q w e ((up_ne _ _ hqa).trans hq)
theorem fk_sw1 {E : fk_E} {nL n cs sl pc a : Nat} {m : fk_M} {lv : List (Nat × fk_T)} {st : List fk_T} (h : fk_W E nL n (fk_up m a (oB 0 V1_)) cs sl pc lv st) : fk_W E nL n (fk_up m a (oB 0 (fk_V0 tyX1))) cs sl pc lv st := by
  obtain ⟨p, l, e, R, s, m', args, below, meth, c, G, b0, Q⟩ := E
  exact fun H locs ls hR => h H locs ls (hR.sw (N := 20) (fun r hr => by cases hr; rfl) (fun k hk => if_neg (by omega)))
theorem fk_sw2 {E : fk_E} {nL n cs sl pc a : Nat} {m : fk_M} {lv : List (Nat × fk_T)} {st : List fk_T} (h : fk_W E nL n (fk_up m a (oB 1 V2_)) cs sl pc lv st) : fk_W E nL n (fk_up m a (oB 1 (fk_V0 tyX2))) cs sl pc lv st := by
  obtain ⟨p, l, e, R, s, m', args, below, meth, c, G, b0, Q⟩ := E
  exact fun H locs ls hR => h H locs ls (hR.sw (N := 42) (fun r hr => by cases hr; rfl) (fun k hk => if_neg (by omega)))
