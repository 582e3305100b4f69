/-! PLAIN 85: the law's start (by gen_loop.py) -/
set_option maxRecDepth 100000
theorem cs_nA2 {m : fk_M} {n N t w : Nat} {L : List fk_C} {v : Int} {z : Int32} (hN : N = n + L.length) (hz : z = ii v) (h0 : 0 ≤ v) (h1 : v ≤ 100000000) (hw : v.toNat = w) : nA N (cs m n L) t z = some (cs m n (L ++ [aN t w (fun _ => 0)])) := by
  subst hN hz hw
  exact cs_nA t h0 h1
theorem cs_push2 {m : fk_M} {n N : Nat} {L : List fk_C} (e : fk_C) (hN : N = n + L.length) : fk_up (cs m n L) N e = cs m n (L ++ [e]) := by
  subst hN
  exact cs_push e
def F0_ (k : Nat) : Int := if k = 3 then -1 else 0
def P0_ (g : Nat → Nat) (k : Nat) : Option Nat := if k = 100 ∨ k = 110 then some (g 40) else none
def f0_ (k : Nat) : Int := if k = 10 then -1 else 0
abbrev a0_ (_ : Nat) (_ : Int) : Int := 0
theorem x1_init (g : Nat → Nat) (m : fk_M) (x k : Nat) : ∃ W k', f_X1_init g (some x) (x + 1) k (fk_up m x (oB 0 V1_)) = some (x + 8, k', cs m x [oB 0 W, aN 1 900 (fun _ => 0), lc0 g, lc0 g, aN 2 2710 (fun _ => 0), aN 0 4 (fun _ => 0), aN 0 32 (fun _ => 0), aN 0 5 (fun _ => 0)]) ∧ (∀ j, W j = kV x F0_ (P0_ g) j) ∧ k ≤ k' ∧ k' ≤ k + 4000 := by
  obtain ⟨V0, hV0⟩ : ∃ V0, V0 = V1_ := ⟨_, rfl⟩
  have u2 : ∀ e, fk_up m x e = cs m x [e] := fun e => by
    have := cs_push (m := m) (n := x) (L := []) e
    rw [cs_nil] at this
    exact this
  have p : ∀ (V : Nat → fk_T) (R : List fk_C) (k : Nat) (v : fk_T), pV (cs m x (oB 0 V :: R)) (some x) 0 k v = some (cs m x (oB 0 (fk_set V k v) :: R)) := fun V R k v => cs_pV (i := 0) k v rfl
  have l1 : ∀ V, nA (x + 1) (cs m x [oB 0 V]) 1 900 = some (cs m x [oB 0 V, aN 1 900 (fun _ => 0)]) := fun V => cs_nA2 (L := [oB 0 V]) (v := 900) (by show _ = x + 1; omega) rfl (by omega) (by omega) rfl
  have l2 : ∀ V, f_J2_init g (some (x + 1 + 1)) (fk_up (cs m x [oB 0 V, aN 1 900 (fun _ => 0)]) (x + 1 + 1) (oB 14 (fk_V0 tyJ2))) = some (cs m x [oB 0 V, aN 1 900 (fun _ => 0), lc0 g]) := fun V => (j2_init g _ _ _).trans (congrArg some (cs_push2 (L := [oB 0 V, aN 1 900 (fun _ => 0)]) _ (by show _ = x + 2; omega)))
  have l3 : ∀ V, f_J2_init g (some (x + 1 + 1 + 1)) (fk_up (cs m x [oB 0 V, aN 1 900 (fun _ => 0), lc0 g]) (x + 1 + 1 + 1) (oB 14 (fk_V0 tyJ2))) = some (cs m x [oB 0 V, aN 1 900 (fun _ => 0), lc0 g, lc0 g]) := fun V => (j2_init g _ _ _).trans (congrArg some (cs_push2 (L := [oB 0 V, aN 1 900 (fun _ => 0), lc0 g]) _ (by show _ = x + 3; omega)))
  have l4 : ∀ V, nA (x + 1 + 1 + 1 + 1) (cs m x [oB 0 V, aN 1 900 (fun _ => 0), lc0 g, lc0 g]) 2 2710 = some (cs m x [oB 0 V, aN 1 900 (fun _ => 0), lc0 g, lc0 g, aN 2 2710 (fun _ => 0)]) := fun V => cs_nA2 (L := [oB 0 V, aN 1 900 (fun _ => 0), lc0 g, lc0 g]) (v := 2710) (by show _ = x + 4; omega) rfl (by omega) (by omega) rfl
  have l5 : ∀ V, nA (x + 1 + 1 + 1 + 1 + 1) (cs m x [oB 0 V, aN 1 900 (fun _ => 0), lc0 g, lc0 g, aN 2 2710 (fun _ => 0)]) 0 4 = some (cs m x [oB 0 V, aN 1 900 (fun _ => 0), lc0 g, lc0 g, aN 2 2710 (fun _ => 0), aN 0 4 (fun _ => 0)]) := fun V => cs_nA2 (L := [oB 0 V, aN 1 900 (fun _ => 0), lc0 g, lc0 g, aN 2 2710 (fun _ => 0)]) (v := 4) (by show _ = x + 5; omega) rfl (by omega) (by omega) rfl
  have l6 : ∀ V, nA (x + 1 + 1 + 1 + 1 + 1 + 1) (cs m x [oB 0 V, aN 1 900 (fun _ => 0), lc0 g, lc0 g, aN 2 2710 (fun _ => 0), aN 0 4 (fun _ => 0)]) 0 32 = some (cs m x [oB 0 V, aN 1 900 (fun _ => 0), lc0 g, lc0 g, aN 2 2710 (fun _ => 0), aN 0 4 (fun _ => 0), aN 0 32 (fun _ => 0)]) := fun V => cs_nA2 (L := [oB 0 V, aN 1 900 (fun _ => 0), lc0 g, lc0 g, aN 2 2710 (fun _ => 0), aN 0 4 (fun _ => 0)]) (v := 32) (by show _ = x + 6; omega) rfl (by omega) (by omega) rfl
  have l7 : ∀ V, nA (x + 1 + 1 + 1 + 1 + 1 + 1 + 1) (cs m x [oB 0 V, aN 1 900 (fun _ => 0), lc0 g, lc0 g, aN 2 2710 (fun _ => 0), aN 0 4 (fun _ => 0), aN 0 32 (fun _ => 0)]) 0 5 = some (cs m x [oB 0 V, aN 1 900 (fun _ => 0), lc0 g, lc0 g, aN 2 2710 (fun _ => 0), aN 0 4 (fun _ => 0), aN 0 32 (fun _ => 0), aN 0 5 (fun _ => 0)]) := fun V => cs_nA2 (L := [oB 0 V, aN 1 900 (fun _ => 0), lc0 g, lc0 g, aN 2 2710 (fun _ => 0), aN 0 4 (fun _ => 0), aN 0 32 (fun _ => 0)]) (v := 5) (by show _ = x + 7; omega) rfl (by omega) (by omega) rfl
  have t4 : Int32.toNatClampNeg 4 = 4 := by decide
  have t5 : Int32.toNatClampNeg 5 = 5 := by decide
  have t32 : Int32.toNatClampNeg 32 = 32 := by decide
  have t900 : Int32.toNatClampNeg 900 = 900 := by decide
  have t2710 : Int32.toNatClampNeg 2710 = 2710 := by decide
  have hs : ∀ q, isS (some q) = some () := fun _ => rfl
  unfold f_X1_init
  rw [← hV0, u2]
  rw [hs, Option.bind_some, l1, Option.bind_some, p, Option.bind_some, p, Option.bind_some, hs, Option.bind_some, l2, Option.bind_some, p, Option.bind_some, hs, Option.bind_some, l3, Option.bind_some, p, Option.bind_some, l4, Option.bind_some, p, Option.bind_some, l5, Option.bind_some, p, Option.bind_some, l6, Option.bind_some, p, Option.bind_some, l7, Option.bind_some, p, Option.bind_some]
  refine ⟨_, _, rfl, fun j => ?_, by omega, by omega⟩
  by_cases hj : 20 ≤ j
  · rw [hV0]
    unfold fk_set kV V1_
    (repeat rw [if_neg (by omega)])
    rw [if_pos hj, if_pos hj]
  · rw [hV0]
    match j, hj with
    | 0, _ => rfl
    | 1, _ => rfl
    | 2, _ => rfl
    | 3, _ => rfl
    | 4, _ => rfl
    | 5, _ => rfl
    | 6, _ => rfl
    | 7, _ => rfl
    | 8, _ => rfl
    | 9, _ => rfl
    | 10, _ => rfl
    | 11, _ => rfl
    | 12, _ => rfl
    | 13, _ => rfl
    | 14, _ => rfl
    | 15, _ => rfl
    | 16, _ => rfl
    | 17, _ => rfl
    | 18, _ => rfl
    | 19, _ => rfl
    | j + 20, hj => exact absurd (Nat.le_add_left _ _) hj
theorem x2_init (m : fk_M) (x k : Nat) : ∃ W k', f_X2_init (some x) (x + 1) k (fk_up m x (oB 1 V2_)) = some (x + 16, k', cs m x [oB 1 W, aN 0 900 (fun _ => 0), aN 0 8 (fun _ => 0), aN 0 95 (fun _ => 0), aN 0 95 (fun _ => 0), aN 0 36 (fun _ => 0), aN 0 36 (fun _ => 0), aN 0 36 (fun _ => 0), aN 0 576 (fun _ => 0), aN 0 108 (fun _ => 0), aN 0 2600 (fun _ => 0), aN 0 900 (fun _ => 0), aN 0 4 (fun _ => 0), aN 0 5 (fun _ => 0), aN 0 5 (fun _ => 0), aN 0 5 (fun _ => 0)]) ∧ (∀ j, W j = (if mkind j = 0 then tI (ii (f0_ j)) else if mkind j = 1 then tL (Int64.ofInt 0) else tR (some (x + (mkind j - 8))))) ∧ k ≤ k' ∧ k' ≤ k + 6000 := by
  obtain ⟨V0, hV0⟩ : ∃ V0, V0 = V2_ := ⟨_, rfl⟩
  have u2 : ∀ e, fk_up m x e = cs m x [e] := fun e => by
    have := cs_push (m := m) (n := x) (L := []) e
    rw [cs_nil] at this
    exact this
  have p : ∀ (V : Nat → fk_T) (R : List fk_C) (k : Nat) (v : fk_T), pV (cs m x (oB 1 V :: R)) (some x) 1 k v = some (cs m x (oB 1 (fk_set V k v) :: R)) := fun V R k v => cs_pV (i := 0) k v rfl
  have l1 : ∀ V, nA (x + 1) (cs m x [oB 1 V]) 0 900 = some (cs m x [oB 1 V, aN 0 900 (fun _ => 0)]) := fun V => cs_nA2 (L := [oB 1 V]) (v := 900) (by show _ = x + 1; omega) rfl (by omega) (by omega) rfl
  have l2 : ∀ V, nA (x + 1 + 1) (cs m x [oB 1 V, aN 0 900 (fun _ => 0)]) 0 8 = some (cs m x [oB 1 V, aN 0 900 (fun _ => 0), aN 0 8 (fun _ => 0)]) := fun V => cs_nA2 (L := [oB 1 V, aN 0 900 (fun _ => 0)]) (v := 8) (by show _ = x + 2; omega) rfl (by omega) (by omega) rfl
  have l3 : ∀ V, nA (x + 1 + 1 + 1) (cs m x [oB 1 V, aN 0 900 (fun _ => 0), aN 0 8 (fun _ => 0)]) 0 95 = some (cs m x [oB 1 V, aN 0 900 (fun _ => 0), aN 0 8 (fun _ => 0), aN 0 95 (fun _ => 0)]) := fun V => cs_nA2 (L := [oB 1 V, aN 0 900 (fun _ => 0), aN 0 8 (fun _ => 0)]) (v := 95) (by show _ = x + 3; omega) rfl (by omega) (by omega) rfl
  have l4 : ∀ V, nA (x + 1 + 1 + 1 + 1) (cs m x [oB 1 V, aN 0 900 (fun _ => 0), aN 0 8 (fun _ => 0), aN 0 95 (fun _ => 0)]) 0 95 = some (cs m x [oB 1 V, aN 0 900 (fun _ => 0), aN 0 8 (fun _ => 0), aN 0 95 (fun _ => 0), aN 0 95 (fun _ => 0)]) := fun V => cs_nA2 (L := [oB 1 V, aN 0 900 (fun _ => 0), aN 0 8 (fun _ => 0), aN 0 95 (fun _ => 0)]) (v := 95) (by show _ = x + 4; omega) rfl (by omega) (by omega) rfl
  have l5 : ∀ V, nA (x + 1 + 1 + 1 + 1 + 1) (cs m x [oB 1 V, aN 0 900 (fun _ => 0), aN 0 8 (fun _ => 0), aN 0 95 (fun _ => 0), aN 0 95 (fun _ => 0)]) 0 36 = some (cs m x [oB 1 V, aN 0 900 (fun _ => 0), aN 0 8 (fun _ => 0), aN 0 95 (fun _ => 0), aN 0 95 (fun _ => 0), aN 0 36 (fun _ => 0)]) := fun V => cs_nA2 (L := [oB 1 V, aN 0 900 (fun _ => 0), aN 0 8 (fun _ => 0), aN 0 95 (fun _ => 0), aN 0 95 (fun _ => 0)]) (v := 36) (by show _ = x + 5; omega) rfl (by omega) (by omega) rfl
  have l6 : ∀ V, nA (x + 1 + 1 + 1 + 1 + 1 + 1) (cs m x [oB 1 V, aN 0 900 (fun _ => 0), aN 0 8 (fun _ => 0), aN 0 95 (fun _ => 0), aN 0 95 (fun _ => 0), aN 0 36 (fun _ => 0)]) 0 36 = some (cs m x [oB 1 V, aN 0 900 (fun _ => 0), aN 0 8 (fun _ => 0), aN 0 95 (fun _ => 0), aN 0 95 (fun _ => 0), aN 0 36 (fun _ => 0), aN 0 36 (fun _ => 0)]) := fun V => cs_nA2 (L := [oB 1 V, aN 0 900 (fun _ => 0), aN 0 8 (fun _ => 0), aN 0 95 (fun _ => 0), aN 0 95 (fun _ => 0), aN 0 36 (fun _ => 0)]) (v := 36) (by show _ = x + 6; omega) rfl (by omega) (by omega) rfl
  have l7 : ∀ V, nA (x + 1 + 1 + 1 + 1 + 1 + 1 + 1) (cs m x [oB 1 V, aN 0 900 (fun _ => 0), aN 0 8 (fun _ => 0), aN 0 95 (fun _ => 0), aN 0 95 (fun _ => 0), aN 0 36 (fun _ => 0), aN 0 36 (fun _ => 0)]) 0 36 = some (cs m x [oB 1 V, aN 0 900 (fun _ => 0), aN 0 8 (fun _ => 0), aN 0 95 (fun _ => 0), aN 0 95 (fun _ => 0), aN 0 36 (fun _ => 0), aN 0 36 (fun _ => 0), aN 0 36 (fun _ => 0)]) := fun V => cs_nA2 (L := [oB 1 V, aN 0 900 (fun _ => 0), aN 0 8 (fun _ => 0), aN 0 95 (fun _ => 0), aN 0 95 (fun _ => 0), aN 0 36 (fun _ => 0), aN 0 36 (fun _ => 0)]) (v := 36) (by show _ = x + 7; omega) rfl (by omega) (by omega) rfl
  have l8 : ∀ V, nA (x + 1 + 1 + 1 + 1 + 1 + 1 + 1 + 1) (cs m x [oB 1 V, aN 0 900 (fun _ => 0), aN 0 8 (fun _ => 0), aN 0 95 (fun _ => 0), aN 0 95 (fun _ => 0), aN 0 36 (fun _ => 0), aN 0 36 (fun _ => 0), aN 0 36 (fun _ => 0)]) 0 576 = some (cs m x [oB 1 V, aN 0 900 (fun _ => 0), aN 0 8 (fun _ => 0), aN 0 95 (fun _ => 0), aN 0 95 (fun _ => 0), aN 0 36 (fun _ => 0), aN 0 36 (fun _ => 0), aN 0 36 (fun _ => 0), aN 0 576 (fun _ => 0)]) := fun V => cs_nA2 (L := [oB 1 V, aN 0 900 (fun _ => 0), aN 0 8 (fun _ => 0), aN 0 95 (fun _ => 0), aN 0 95 (fun _ => 0), aN 0 36 (fun _ => 0), aN 0 36 (fun _ => 0), aN 0 36 (fun _ => 0)]) (v := 576) (by show _ = x + 8; omega) rfl (by omega) (by omega) rfl
  have l9 : ∀ V, nA (x + 1 + 1 + 1 + 1 + 1 + 1 + 1 + 1 + 1) (cs m x [oB 1 V, aN 0 900 (fun _ => 0), aN 0 8 (fun _ => 0), aN 0 95 (fun _ => 0), aN 0 95 (fun _ => 0), aN 0 36 (fun _ => 0), aN 0 36 (fun _ => 0), aN 0 36 (fun _ => 0), aN 0 576 (fun _ => 0)]) 0 108 = some (cs m x [oB 1 V, aN 0 900 (fun _ => 0), aN 0 8 (fun _ => 0), aN 0 95 (fun _ => 0), aN 0 95 (fun _ => 0), aN 0 36 (fun _ => 0), aN 0 36 (fun _ => 0), aN 0 36 (fun _ => 0), aN 0 576 (fun _ => 0), aN 0 108 (fun _ => 0)]) := fun V => cs_nA2 (L := [oB 1 V, aN 0 900 (fun _ => 0), aN 0 8 (fun _ => 0), aN 0 95 (fun _ => 0), aN 0 95 (fun _ => 0), aN 0 36 (fun _ => 0), aN 0 36 (fun _ => 0), aN 0 36 (fun _ => 0), aN 0 576 (fun _ => 0)]) (v := 108) (by show _ = x + 9; omega) rfl (by omega) (by omega) rfl
  have l10 : ∀ V, nA (x + 1 + 1 + 1 + 1 + 1 + 1 + 1 + 1 + 1 + 1) (cs m x [oB 1 V, aN 0 900 (fun _ => 0), aN 0 8 (fun _ => 0), aN 0 95 (fun _ => 0), aN 0 95 (fun _ => 0), aN 0 36 (fun _ => 0), aN 0 36 (fun _ => 0), aN 0 36 (fun _ => 0), aN 0 576 (fun _ => 0), aN 0 108 (fun _ => 0)]) 0 2600 = some (cs m x [oB 1 V, aN 0 900 (fun _ => 0), aN 0 8 (fun _ => 0), aN 0 95 (fun _ => 0), aN 0 95 (fun _ => 0), aN 0 36 (fun _ => 0), aN 0 36 (fun _ => 0), aN 0 36 (fun _ => 0), aN 0 576 (fun _ => 0), aN 0 108 (fun _ => 0), aN 0 2600 (fun _ => 0)]) := fun V => cs_nA2 (L := [oB 1 V, aN 0 900 (fun _ => 0), aN 0 8 (fun _ => 0), aN 0 95 (fun _ => 0), aN 0 95 (fun _ => 0), aN 0 36 (fun _ => 0), aN 0 36 (fun _ => 0), aN 0 36 (fun _ => 0), aN 0 576 (fun _ => 0), aN 0 108 (fun _ => 0)]) (v := 2600) (by show _ = x + 10; omega) rfl (by omega) (by omega) rfl
  have l11 : ∀ V, nA (x + 1 + 1 + 1 + 1 + 1 + 1 + 1 + 1 + 1 + 1 + 1) (cs m x [oB 1 V, aN 0 900 (fun _ => 0), aN 0 8 (fun _ => 0), aN 0 95 (fun _ => 0), aN 0 95 (fun _ => 0), aN 0 36 (fun _ => 0), aN 0 36 (fun _ => 0), aN 0 36 (fun _ => 0), aN 0 576 (fun _ => 0), aN 0 108 (fun _ => 0), aN 0 2600 (fun _ => 0)]) 0 900 = some (cs m x [oB 1 V, aN 0 900 (fun _ => 0), aN 0 8 (fun _ => 0), aN 0 95 (fun _ => 0), aN 0 95 (fun _ => 0), aN 0 36 (fun _ => 0), aN 0 36 (fun _ => 0), aN 0 36 (fun _ => 0), aN 0 576 (fun _ => 0), aN 0 108 (fun _ => 0), aN 0 2600 (fun _ => 0), aN 0 900 (fun _ => 0)]) := fun V => cs_nA2 (L := [oB 1 V, aN 0 900 (fun _ => 0), aN 0 8 (fun _ => 0), aN 0 95 (fun _ => 0), aN 0 95 (fun _ => 0), aN 0 36 (fun _ => 0), aN 0 36 (fun _ => 0), aN 0 36 (fun _ => 0), aN 0 576 (fun _ => 0), aN 0 108 (fun _ => 0), aN 0 2600 (fun _ => 0)]) (v := 900) (by show _ = x + 11; omega) rfl (by omega) (by omega) rfl
  have l12 : ∀ V, nA (x + 1 + 1 + 1 + 1 + 1 + 1 + 1 + 1 + 1 + 1 + 1 + 1) (cs m x [oB 1 V, aN 0 900 (fun _ => 0), aN 0 8 (fun _ => 0), aN 0 95 (fun _ => 0), aN 0 95 (fun _ => 0), aN 0 36 (fun _ => 0), aN 0 36 (fun _ => 0), aN 0 36 (fun _ => 0), aN 0 576 (fun _ => 0), aN 0 108 (fun _ => 0), aN 0 2600 (fun _ => 0), aN 0 900 (fun _ => 0)]) 0 4 = some (cs m x [oB 1 V, aN 0 900 (fun _ => 0), aN 0 8 (fun _ => 0), aN 0 95 (fun _ => 0), aN 0 95 (fun _ => 0), aN 0 36 (fun _ => 0), aN 0 36 (fun _ => 0), aN 0 36 (fun _ => 0), aN 0 576 (fun _ => 0), aN 0 108 (fun _ => 0), aN 0 2600 (fun _ => 0), aN 0 900 (fun _ => 0), aN 0 4 (fun _ => 0)]) := fun V => cs_nA2 (L := [oB 1 V, aN 0 900 (fun _ => 0), aN 0 8 (fun _ => 0), aN 0 95 (fun _ => 0), aN 0 95 (fun _ => 0), aN 0 36 (fun _ => 0), aN 0 36 (fun _ => 0), aN 0 36 (fun _ => 0), aN 0 576 (fun _ => 0), aN 0 108 (fun _ => 0), aN 0 2600 (fun _ => 0), aN 0 900 (fun _ => 0)]) (v := 4) (by show _ = x + 12; omega) rfl (by omega) (by omega) rfl
  have l13 : ∀ V, nA (x + 1 + 1 + 1 + 1 + 1 + 1 + 1 + 1 + 1 + 1 + 1 + 1 + 1) (cs m x [oB 1 V, aN 0 900 (fun _ => 0), aN 0 8 (fun _ => 0), aN 0 95 (fun _ => 0), aN 0 95 (fun _ => 0), aN 0 36 (fun _ => 0), aN 0 36 (fun _ => 0), aN 0 36 (fun _ => 0), aN 0 576 (fun _ => 0), aN 0 108 (fun _ => 0), aN 0 2600 (fun _ => 0), aN 0 900 (fun _ => 0), aN 0 4 (fun _ => 0)]) 0 5 = some (cs m x [oB 1 V, aN 0 900 (fun _ => 0), aN 0 8 (fun _ => 0), aN 0 95 (fun _ => 0), aN 0 95 (fun _ => 0), aN 0 36 (fun _ => 0), aN 0 36 (fun _ => 0), aN 0 36 (fun _ => 0), aN 0 576 (fun _ => 0), aN 0 108 (fun _ => 0), aN 0 2600 (fun _ => 0), aN 0 900 (fun _ => 0), aN 0 4 (fun _ => 0), aN 0 5 (fun _ => 0)]) := fun V => cs_nA2 (L := [oB 1 V, aN 0 900 (fun _ => 0), aN 0 8 (fun _ => 0), aN 0 95 (fun _ => 0), aN 0 95 (fun _ => 0), aN 0 36 (fun _ => 0), aN 0 36 (fun _ => 0), aN 0 36 (fun _ => 0), aN 0 576 (fun _ => 0), aN 0 108 (fun _ => 0), aN 0 2600 (fun _ => 0), aN 0 900 (fun _ => 0), aN 0 4 (fun _ => 0)]) (v := 5) (by show _ = x + 13; omega) rfl (by omega) (by omega) rfl
  have l14 : ∀ V, nA (x + 1 + 1 + 1 + 1 + 1 + 1 + 1 + 1 + 1 + 1 + 1 + 1 + 1 + 1) (cs m x [oB 1 V, aN 0 900 (fun _ => 0), aN 0 8 (fun _ => 0), aN 0 95 (fun _ => 0), aN 0 95 (fun _ => 0), aN 0 36 (fun _ => 0), aN 0 36 (fun _ => 0), aN 0 36 (fun _ => 0), aN 0 576 (fun _ => 0), aN 0 108 (fun _ => 0), aN 0 2600 (fun _ => 0), aN 0 900 (fun _ => 0), aN 0 4 (fun _ => 0), aN 0 5 (fun _ => 0)]) 0 5 = some (cs m x [oB 1 V, aN 0 900 (fun _ => 0), aN 0 8 (fun _ => 0), aN 0 95 (fun _ => 0), aN 0 95 (fun _ => 0), aN 0 36 (fun _ => 0), aN 0 36 (fun _ => 0), aN 0 36 (fun _ => 0), aN 0 576 (fun _ => 0), aN 0 108 (fun _ => 0), aN 0 2600 (fun _ => 0), aN 0 900 (fun _ => 0), aN 0 4 (fun _ => 0), aN 0 5 (fun _ => 0), aN 0 5 (fun _ => 0)]) := fun V => cs_nA2 (L := [oB 1 V, aN 0 900 (fun _ => 0), aN 0 8 (fun _ => 0), aN 0 95 (fun _ => 0), aN 0 95 (fun _ => 0), aN 0 36 (fun _ => 0), aN 0 36 (fun _ => 0), aN 0 36 (fun _ => 0), aN 0 576 (fun _ => 0), aN 0 108 (fun _ => 0), aN 0 2600 (fun _ => 0), aN 0 900 (fun _ => 0), aN 0 4 (fun _ => 0), aN 0 5 (fun _ => 0)]) (v := 5) (by show _ = x + 14; omega) rfl (by omega) (by omega) rfl
  have l15 : ∀ V, nA (x + 1 + 1 + 1 + 1 + 1 + 1 + 1 + 1 + 1 + 1 + 1 + 1 + 1 + 1 + 1) (cs m x [oB 1 V, aN 0 900 (fun _ => 0), aN 0 8 (fun _ => 0), aN 0 95 (fun _ => 0), aN 0 95 (fun _ => 0), aN 0 36 (fun _ => 0), aN 0 36 (fun _ => 0), aN 0 36 (fun _ => 0), aN 0 576 (fun _ => 0), aN 0 108 (fun _ => 0), aN 0 2600 (fun _ => 0), aN 0 900 (fun _ => 0), aN 0 4 (fun _ => 0), aN 0 5 (fun _ => 0), aN 0 5 (fun _ => 0)]) 0 5 = some (cs m x [oB 1 V, aN 0 900 (fun _ => 0), aN 0 8 (fun _ => 0), aN 0 95 (fun _ => 0), aN 0 95 (fun _ => 0), aN 0 36 (fun _ => 0), aN 0 36 (fun _ => 0), aN 0 36 (fun _ => 0), aN 0 576 (fun _ => 0), aN 0 108 (fun _ => 0), aN 0 2600 (fun _ => 0), aN 0 900 (fun _ => 0), aN 0 4 (fun _ => 0), aN 0 5 (fun _ => 0), aN 0 5 (fun _ => 0), aN 0 5 (fun _ => 0)]) := fun V => cs_nA2 (L := [oB 1 V, aN 0 900 (fun _ => 0), aN 0 8 (fun _ => 0), aN 0 95 (fun _ => 0), aN 0 95 (fun _ => 0), aN 0 36 (fun _ => 0), aN 0 36 (fun _ => 0), aN 0 36 (fun _ => 0), aN 0 576 (fun _ => 0), aN 0 108 (fun _ => 0), aN 0 2600 (fun _ => 0), aN 0 900 (fun _ => 0), aN 0 4 (fun _ => 0), aN 0 5 (fun _ => 0), aN 0 5 (fun _ => 0)]) (v := 5) (by show _ = x + 15; omega) rfl (by omega) (by omega) rfl
  have t4 : Int32.toNatClampNeg 4 = 4 := by decide
  have t5 : Int32.toNatClampNeg 5 = 5 := by decide
  have t8 : Int32.toNatClampNeg 8 = 8 := by decide
  have t36 : Int32.toNatClampNeg 36 = 36 := by decide
  have t95 : Int32.toNatClampNeg 95 = 95 := by decide
  have t108 : Int32.toNatClampNeg 108 = 108 := by decide
  have t576 : Int32.toNatClampNeg 576 = 576 := by decide
  have t900 : Int32.toNatClampNeg 900 = 900 := by decide
  have t2600 : Int32.toNatClampNeg 2600 = 2600 := by decide
  have hs : ∀ q, isS (some q) = some () := fun _ => rfl
  unfold f_X2_init
  rw [← hV0, u2]
  rw [hs, Option.bind_some, l1, Option.bind_some, p, Option.bind_some, p, Option.bind_some, l2, Option.bind_some, p, Option.bind_some, l3, Option.bind_some, p, Option.bind_some, l4, Option.bind_some, p, Option.bind_some, l5, Option.bind_some, p, Option.bind_some, l6, Option.bind_some, p, Option.bind_some, l7, Option.bind_some, p, Option.bind_some, l8, Option.bind_some, p, Option.bind_some, l9, Option.bind_some, p, Option.bind_some, l10, Option.bind_some, p, Option.bind_some, l11, Option.bind_some, p, Option.bind_some, l12, Option.bind_some, p, Option.bind_some, l13, Option.bind_some, p, Option.bind_some, l14, Option.bind_some, p, Option.bind_some, l15, Option.bind_some, p, Option.bind_some]
  refine ⟨_, _, rfl, fun j => ?_, by omega, by omega⟩
  by_cases hj : 42 ≤ j
  · rw [hV0]
    unfold fk_set V2_
    (repeat rw [if_neg (by omega)])
    rw [if_pos hj]
    obtain ⟨j, rfl⟩ : ∃ i, j = i + 42 := ⟨j - 42, by omega⟩
    rfl
  · rw [hV0]
    match j, hj with
    | 0, _ => rfl
    | 1, _ => rfl
    | 2, _ => rfl
    | 3, _ => rfl
    | 4, _ => rfl
    | 5, _ => rfl
    | 6, _ => rfl
    | 7, _ => rfl
    | 8, _ => rfl
    | 9, _ => rfl
    | 10, _ => rfl
    | 11, _ => rfl
    | 12, _ => rfl
    | 13, _ => rfl
    | 14, _ => rfl
    | 15, _ => rfl
    | 16, _ => rfl
    | 17, _ => rfl
    | 18, _ => rfl
    | 19, _ => rfl
    | 20, _ => rfl
    | 21, _ => rfl
    | 22, _ => rfl
    | 23, _ => rfl
    | 24, _ => rfl
    | 25, _ => rfl
    | 26, _ => rfl
    | 27, _ => rfl
    | 28, _ => rfl
    | 29, _ => rfl
    | 30, _ => rfl
    | 31, _ => rfl
    | 32, _ => rfl
    | 33, _ => rfl
    | 34, _ => rfl
    | 35, _ => rfl
    | 36, _ => rfl
    | 37, _ => rfl
    | 38, _ => rfl
    | 39, _ => rfl
    | 40, _ => rfl
    | 41, _ => rfl
    | j + 42, hj => exact absurd (Nat.le_add_left _ _) hj
theorem law_start {x sc L : Nat} {xs : Nat → Int32} {g : Nat → Nat} {m : fk_M} (hB : B0 x g m) (hS : Sc x sc L xs m) (hfr : ∀ q, x ≤ q → m q = none) (k : Nat) : ∃ n' k' m', f_L_law g (some sc) x k m = some (1, n', k', m') ∧ x ≤ n' ∧ n' ≤ x + 500000 ∧ k ≤ k' ∧ k' ≤ k + 5000000 := by
  obtain ⟨W, k1, e1, hW, h1⟩ := x1_init g m x (k + 20)
  obtain ⟨m3, hm3⟩ : ∃ m3, m3 = cs m x [oB 0 W, aN 1 900 (fun _ => 0), lc0 g, lc0 g, aN 2 2710 (fun _ => 0), aN 0 4 (fun _ => 0), aN 0 32 (fun _ => 0), aN 0 5 (fun _ => 0)] := ⟨_, rfl⟩
  rw [← hm3] at e1
  obtain ⟨U, k2, e2, hU, h2⟩ := x2_init m3 (x + 8) (k1 + 42)
  obtain ⟨m8, hm8⟩ : ∃ m8, m8 = cs m3 (x + 8) [oB 1 U, aN 0 900 (fun _ => 0), aN 0 8 (fun _ => 0), aN 0 95 (fun _ => 0), aN 0 95 (fun _ => 0), aN 0 36 (fun _ => 0), aN 0 36 (fun _ => 0), aN 0 36 (fun _ => 0), aN 0 576 (fun _ => 0), aN 0 108 (fun _ => 0), aN 0 2600 (fun _ => 0), aN 0 900 (fun _ => 0), aN 0 4 (fun _ => 0), aN 0 5 (fun _ => 0), aN 0 5 (fun _ => 0), aN 0 5 (fun _ => 0)] := ⟨_, rfl⟩
  rw [← hm8] at e2
  have t1 : Int32.toNatClampNeg 1 = 1 := by decide
  have hWV : W = kV x F0_ (P0_ g) := funext hW
  have hUV : U = mV x f0_ (fun _ => 0) := funext fun j => by
    rw [hU j]
    unfold mV
    by_cases h0 : mkind j = 0
    · rw [if_pos h0, if_pos h0]
    · by_cases h1 : mkind j = 1
      · rw [if_neg h0, if_neg h0, if_pos h1, if_pos h1]
      · have h9 : 9 ≤ mkind j := by
          unfold mkind at h0 h1 ⊢
          split <;> simp_all
        rw [if_neg h0, if_neg h0, if_neg h1, if_neg h1, show x + 8 + (mkind j - 8) = x + mkind j by omega]
  obtain ⟨b, hb⟩ : ∃ b, b = fk_up m (x + 24) (aJ 1 (fun _ => 0)) := ⟨_, rfl⟩
  have e3 : nJ (x + 24) m8 1 = some (fk_up m8 (x + 24) (aJ 1 (fun _ => 0))) := rfl
  have hbl : ∀ q, q ≠ x + 24 → b q = m q := fun q hq => by rw [hb, up_ne _ _ hq]
  have b24 : b (x + 24) = some (true, aJ 1 (fun _ => 0)) := by rw [hb, up_eq]
  have hm : fk_up m8 (x + 24) (aJ 1 (fun _ => 0)) = hp x F0_ (P0_ g) a0_ f0_ (fun _ => 0) a0_ b := by
    funext q
    by_cases hq0 : q < x ∨ x + 24 ≤ q
    · rw [hp_out _ _ _ _ _ _ _ _ hq0]
      by_cases hq1 : q = x + 24
      · rw [hq1, up_eq, b24]
      · rw [up_ne _ _ hq1, hbl q hq1, hm8, cs_out (by show q < x + 8 ∨ x + 8 + 16 ≤ q; omega), hm3, cs_out (by show q < x ∨ x + 8 ≤ q; omega)]
    · rw [up_ne _ _ (by omega), hm8]
      by_cases hq8 : q < x + 8
      · rw [cs_out (Or.inl hq8), hm3]
        obtain ⟨j, hj, rfl⟩ : ∃ j, j < 8 ∧ q = x + j := ⟨q - x, by omega, by omega⟩
        match j, hj with
        | 0, _ => exact (cs_at (i := 0) rfl).trans (by rw [hWV]; exact (hp_0 ..).symm)
        | 1, _ => exact (cs_at (i := 1) rfl).trans (by rw [hp_k _ _ _ _ _ _ _ _ 1 (by omega)]; rfl)
        | 2, _ => exact (cs_at (i := 2) rfl).trans (by rw [hp_2]; exact congrArg (fun V => some (true, oB 14 V)) (funext fun j => by
          match j with
          | 0 => rfl
          | 1 => rfl
          | 2 => rfl
          | j + 3 => rfl))
        | 3, _ => exact (cs_at (i := 3) rfl).trans (by rw [hp_3]; exact congrArg (fun V => some (true, oB 14 V)) (funext fun j => by
          match j with
          | 0 => rfl
          | 1 => rfl
          | 2 => rfl
          | j + 3 => rfl))
        | 4, _ => exact (cs_at (i := 4) rfl).trans (by rw [hp_k _ _ _ _ _ _ _ _ 4 (by omega)]; rfl)
        | 5, _ => exact (cs_at (i := 5) rfl).trans (by rw [hp_k _ _ _ _ _ _ _ _ 5 (by omega)]; rfl)
        | 6, _ => exact (cs_at (i := 6) rfl).trans (by rw [hp_k _ _ _ _ _ _ _ _ 6 (by omega)]; rfl)
        | 7, _ => exact (cs_at (i := 7) rfl).trans (by rw [hp_k _ _ _ _ _ _ _ _ 7 (by omega)]; rfl)
        | j + 8, hj => exact absurd hj (by omega)
      · obtain ⟨j, hj, rfl⟩ : ∃ j, j < 16 ∧ q = x + 8 + j := ⟨q - (x + 8), by omega, by omega⟩
        match j, hj with
        | 0, _ => exact (cs_at (i := 0) rfl).trans (by rw [hUV]; exact (hp_8 ..).symm)
        | 1, _ => exact (cs_at (i := 1) rfl).trans (by show _ = hp x F0_ (P0_ g) a0_ f0_ (fun _ => 0) a0_ b (x + 9); rw [hp_m _ _ _ _ _ _ _ _ 9 (by omega) (by omega)]; rfl)
        | 2, _ => exact (cs_at (i := 2) rfl).trans (by show _ = hp x F0_ (P0_ g) a0_ f0_ (fun _ => 0) a0_ b (x + 10); rw [hp_m _ _ _ _ _ _ _ _ 10 (by omega) (by omega)]; rfl)
        | 3, _ => exact (cs_at (i := 3) rfl).trans (by show _ = hp x F0_ (P0_ g) a0_ f0_ (fun _ => 0) a0_ b (x + 11); rw [hp_m _ _ _ _ _ _ _ _ 11 (by omega) (by omega)]; rfl)
        | 4, _ => exact (cs_at (i := 4) rfl).trans (by show _ = hp x F0_ (P0_ g) a0_ f0_ (fun _ => 0) a0_ b (x + 12); rw [hp_m _ _ _ _ _ _ _ _ 12 (by omega) (by omega)]; rfl)
        | 5, _ => exact (cs_at (i := 5) rfl).trans (by show _ = hp x F0_ (P0_ g) a0_ f0_ (fun _ => 0) a0_ b (x + 13); rw [hp_m _ _ _ _ _ _ _ _ 13 (by omega) (by omega)]; rfl)
        | 6, _ => exact (cs_at (i := 6) rfl).trans (by show _ = hp x F0_ (P0_ g) a0_ f0_ (fun _ => 0) a0_ b (x + 14); rw [hp_m _ _ _ _ _ _ _ _ 14 (by omega) (by omega)]; rfl)
        | 7, _ => exact (cs_at (i := 7) rfl).trans (by show _ = hp x F0_ (P0_ g) a0_ f0_ (fun _ => 0) a0_ b (x + 15); rw [hp_m _ _ _ _ _ _ _ _ 15 (by omega) (by omega)]; rfl)
        | 8, _ => exact (cs_at (i := 8) rfl).trans (by show _ = hp x F0_ (P0_ g) a0_ f0_ (fun _ => 0) a0_ b (x + 16); rw [hp_m _ _ _ _ _ _ _ _ 16 (by omega) (by omega)]; rfl)
        | 9, _ => exact (cs_at (i := 9) rfl).trans (by show _ = hp x F0_ (P0_ g) a0_ f0_ (fun _ => 0) a0_ b (x + 17); rw [hp_m _ _ _ _ _ _ _ _ 17 (by omega) (by omega)]; rfl)
        | 10, _ => exact (cs_at (i := 10) rfl).trans (by show _ = hp x F0_ (P0_ g) a0_ f0_ (fun _ => 0) a0_ b (x + 18); rw [hp_m _ _ _ _ _ _ _ _ 18 (by omega) (by omega)]; rfl)
        | 11, _ => exact (cs_at (i := 11) rfl).trans (by show _ = hp x F0_ (P0_ g) a0_ f0_ (fun _ => 0) a0_ b (x + 19); rw [hp_m _ _ _ _ _ _ _ _ 19 (by omega) (by omega)]; rfl)
        | 12, _ => exact (cs_at (i := 12) rfl).trans (by show _ = hp x F0_ (P0_ g) a0_ f0_ (fun _ => 0) a0_ b (x + 20); rw [hp_m _ _ _ _ _ _ _ _ 20 (by omega) (by omega)]; rfl)
        | 13, _ => exact (cs_at (i := 13) rfl).trans (by show _ = hp x F0_ (P0_ g) a0_ f0_ (fun _ => 0) a0_ b (x + 21); rw [hp_m _ _ _ _ _ _ _ _ 21 (by omega) (by omega)]; rfl)
        | 14, _ => exact (cs_at (i := 14) rfl).trans (by show _ = hp x F0_ (P0_ g) a0_ f0_ (fun _ => 0) a0_ b (x + 22); rw [hp_m _ _ _ _ _ _ _ _ 22 (by omega) (by omega)]; rfl)
        | 15, _ => exact (cs_at (i := 15) rfl).trans (by show _ = hp x F0_ (P0_ g) a0_ f0_ (fun _ => 0) a0_ b (x + 23); rw [hp_m _ _ _ _ _ _ _ _ 23 (by omega) (by omega)]; rfl)
        | j + 16, hj => exact absurd hj (by omega)
  have hg := hB.2.2.1
  obtain ⟨w, gl, hgl⟩ := hB.2.2.2
  have hlow : Low x m b := fun q hq => hbl q (by omega)
  have hlk : Lk b (g 40) x 0 (g 40) 0 gl := Or.inl ⟨rfl, rfl, rfl, w, (hlow _ hg).trans hgl⟩
  have hI : Inv x (x + 25) g m (hp x F0_ (P0_ g) a0_ f0_ (fun _ => 0) a0_ b) := by
    refine ⟨F0_, P0_ g, a0_, f0_, _, a0_, b, 0, 0, rfl, ⟨⟨fun q hq => (hbl q (by omega)).trans (hfr q (by omega)), by omega, hg, by omega, by omega, rfl, rfl⟩, g 40, 0, gl, g 40, 0, gl, rfl, rfl, hlk, hlk, fun h => absurd rfl h, Or.inl ⟨rfl, rfl, rfl, rfl⟩⟩, ⟨rfl, rfl⟩, ⟨by decide, by decide, rfl⟩, ⟨rfl, rfl, rfl, by decide, by decide⟩, fun t t0 t1 => ?_, hlow, _, b24⟩
    have : F0_ 1 = 0 := rfl
    omega
  obtain ⟨n', k', m', e4, e5⟩ := law_loop hB hS 64 fk_fuel 0 (x + 25) (k2 + 1) _ (by omega) (by omega) (by have := hS.2.1; omega) (by unfold fk_fuel; omega) hI
  refine ⟨n', k', m', ?_, by omega⟩
  unfold f_L_law
  rw [show isS (some x) = some () from rfl, Option.bind_some, e1, bn3_some, show isS (some (x + 8)) = some () from rfl, Option.bind_some, e2, bn3_some, show x + 8 + 16 = x + 24 from rfl, e3, Option.bind_some, hm, t1]
  exact e4
