/-! PLAIN 25: cells of a heap; a list within a heap that is told by its three fields -/
set_option maxRecDepth 100000
theorem up_eq (m : fk_M) (q : Nat) (e : fk_C) : fk_up m q e q = some (true, e) := by
  unfold fk_up
  rw [if_pos rfl]
theorem up_ne (m : fk_M) {q j : Nat} (e : fk_C) (h : j ≠ q) : fk_up m q e j = m j := by
  unfold fk_up
  rw [if_neg h]
theorem up_up (m : fk_M) (q : Nat) (e e' : fk_C) : fk_up (fk_up m q e) q e' = fk_up m q e' := by
  funext j
  unfold fk_up
  split <;> rfl
theorem up_cm (m : fk_M) {q j : Nat} (e e' : fk_C) (h : q ≠ j) : fk_up (fk_up m q e) j e' = fk_up (fk_up m j e') q e := by
  funext t
  unfold fk_up
  by_cases h1 : t = j
  · subst h1
    rw [if_pos rfl, if_neg (fun e => h e.symm), if_pos rfl]
  · rw [if_neg h1]
    by_cases h2 : t = q
    · rw [if_pos h2, if_pos h2]
    · rw [if_neg h2, if_neg h2, if_neg h1]
theorem hp_bu (x : Nat) (F : Nat → Int) (P : Nat → Option Nat) (A : Nat → Int → Int) (f l : Nat → Int) (a : Nat → Int → Int) (b : fk_M) {q : Nat} (e : fk_C) (h : q < x ∨ x + 24 ≤ q) : fk_up (hp x F P A f l a b) q e = hp x F P A f l a (fk_up b q e) := by
  funext j
  by_cases hj : j = q
  · subst hj
    rw [up_eq, hp_out _ _ _ _ _ _ _ _ h, up_eq]
  · rw [up_ne _ _ hj]
    by_cases ho : j < x ∨ x + 24 ≤ j
    · rw [hp_out _ _ _ _ _ _ _ _ ho, hp_out _ _ _ _ _ _ _ _ ho, up_ne _ _ hj]
    · obtain ⟨o, rfl⟩ : ∃ o, j = x + o := ⟨j - x, by omega⟩
      have : hp x F P A f l a (fk_up b q e) (x + o) = hp x F P A f l a b (x + o) := by
        unfold hp
        repeat' split
        all_goals first | rfl | omega
      exact this.symm
theorem fk_ok_of {m : fk_M} {s ci : Nat} {w : Bool} {V : Nat → fk_T} (h : m s = some (w, oB ci V)) (hc : ci = 6 ∨ ci = 11 ∨ ci = 12 ∨ ci = 13) : fk_ok m (some s) = true := by
  unfold fk_ok
  simp only [h]
  rcases hc with rfl | rfl | rfl | rfl <;> rfl
theorem nA_of (n : Nat) (m : fk_M) (t : Nat) {v : Int} (h0 : 0 ≤ v) (h1 : v ≤ 100000000) : nA n m t (ii v) = some (fk_up m n (aN t v.toNat (fun _ => 0))) := by
  unfold nA
  rw [if_neg (by
    rw [show (0 : Int32) = ii 0 from rfl, show (100000000 : Int32) = ii 100000000 from rfl, ii_lt (by omega) (by omega), ii_lt (by omega) (by omega)]
    omega), ii_nat h0 (by omega)]
theorem nQ_of (n : Nat) (m : fk_M) {v : Int} (h0 : 0 ≤ v) (h1 : v ≤ 100000000) : nQ n m (ii v) = some (fk_up m n (aQ v.toNat (fun _ => none))) := by
  unfold nQ
  rw [if_neg (by
    rw [show (0 : Int32) = ii 0 from rfl, show (100000000 : Int32) = ii 100000000 from rfl, ii_lt (by omega) (by omega), ii_lt (by omega) (by omega)]
    omega), ii_nat h0 (by omega)]
theorem cpR_of {m : fk_M} {p q n0 n1 : Nat} {w : Bool} {f g : Nat → Option Nat} {s d n : Int} (hp : m p = some (w, aQ n0 f)) (hq : m q = some (true, aQ n1 g)) (s0 : 0 ≤ s) (d0 : 0 ≤ d) (n0' : 0 ≤ n) (h1 : s + n ≤ (n0 : Int)) (h2 : d + n ≤ (n1 : Int)) (hs : s ≤ 100000) (hd : d ≤ 100000) (hn : n ≤ 100000) (hk : ∀ i : Nat, (i : Int) < n → fk_ok m (f (s.toNat + i)) = true) : cpR m (some p) (ii s) (some q) (ii d) (ii n) = some (fk_up m q (aQ n1 (va_cpy f g s.toNat d.toNat n.toNat))) := by
  have e0 : (0 : Int32) = ii 0 := rfl
  have hall : (List.range n.toNat).all (fun i => fk_ok m (f (s.toNat + i))) = true := by
    rw [List.all_eq_true]
    intro i hi
    exact hk i (by have := List.mem_range.mp hi; omega)
  unfold cpR
  simp only [hp, hq]
  rw [ii_nat s0 (by omega), ii_nat d0 (by omega), ii_nat n0' (by omega), if_pos]
  rw [e0, ii_lt (by omega) (by omega), ii_lt (by omega) (by omega), ii_lt (by omega) (by omega)]
  exact ⟨⟨by omega, by omega, by omega, by omega, by omega⟩, hall⟩
theorem cpI_of {m : fk_M} {p q t n0 n1 : Nat} {w : Bool} {f g : Nat → Int32} {s d n : Int} (hp : m p = some (w, aN t n0 f)) (hq : m q = some (true, aN t n1 g)) (s0 : 0 ≤ s) (d0 : 0 ≤ d) (n0' : 0 ≤ n) (h1 : s + n ≤ (n0 : Int)) (h2 : d + n ≤ (n1 : Int)) (hs : s ≤ 100000) (hd : d ≤ 100000) (hn : n ≤ 100000) : cpI m (some p) (ii s) (some q) (ii d) (ii n) = some (fk_up m q (aN t n1 (va_cpy f g s.toNat d.toNat n.toNat))) := by
  have e0 : (0 : Int32) = ii 0 := rfl
  unfold cpI
  simp only [hp, hq]
  rw [ii_nat s0 (by omega), ii_nat d0 (by omega), ii_nat n0' (by omega), if_pos]
  rw [e0, ii_lt (by omega) (by omega), ii_lt (by omega) (by omega), ii_lt (by omega) (by omega)]
  exact ⟨trivial, by omega, by omega, by omega, by omega, by omega⟩
/-- a list in a heap -/
def LH (H : Int → Option Nat → Int → fk_M → fk_M) (la : Nat) (out : Nat → Prop) : Prop :=
  (∀ c e s b, ∃ V, H c e s b la = some (true, oB 14 V) ∧ V 0 = tI (ii c) ∧ V 1 = tR e ∧ V 2 = tI (ii s)) ∧
  (∀ c e s b v, pV (H c e s b) (some la) 14 0 (tI (ii v)) = some (H v e s b)) ∧
  (∀ c e s b v, pV (H c e s b) (some la) 14 1 (tR v) = some (H c v s b)) ∧
  (∀ c e s b v, pV (H c e s b) (some la) 14 2 (tI (ii v)) = some (H c e v b)) ∧
  (∀ c e s b q, out q → H c e s b q = b q) ∧ (∀ c e s b q z, out q → fk_up (H c e s b) q z = H c e s (fk_up b q z))
section LHS
variable {H : Int → Option Nat → Int → fk_M → fk_M} {la : Nat} {out : Nat → Prop}
theorem LH.g0 (h : LH H la out) (c : Int) (e : Option Nat) (s : Int) (b : fk_M) : gI (H c e s b) (some la) 14 0 = some (ii c) := by
  obtain ⟨V, h1, h2, h3, h4⟩ := h.1 c e s b
  exact gI_of h1 h2
theorem LH.g1 (h : LH H la out) (c : Int) (e : Option Nat) (s : Int) (b : fk_M) : gR (H c e s b) (some la) 14 1 = some e := by
  obtain ⟨V, h1, h2, h3, h4⟩ := h.1 c e s b
  exact gR_of h1 h3
theorem LH.g2 (h : LH H la out) (c : Int) (e : Option Nat) (s : Int) (b : fk_M) : gI (H c e s b) (some la) 14 2 = some (ii s) := by
  obtain ⟨V, h1, h2, h3, h4⟩ := h.1 c e s b
  exact gI_of h1 h4
theorem LH.o (h : LH H la out) (c : Int) (e : Option Nat) (s : Int) (b : fk_M) : isO (H c e s b) (some la) 14 = some () := by
  obtain ⟨V, h1, h2, h3, h4⟩ := h.1 c e s b
  exact isO_of h1
theorem LH.sz (h : LH H la out) (c : Int) (e : Option Nat) (s : Int) (b : fk_M) : f_J2_size (some la) (H c e s b) = some (ii s) := by
  unfold f_J2_size
  rw [h.g2, Option.bind_some]
theorem LH.emp (h : LH H la out) (c : Int) (e : Option Nat) {s : Int} (b : fk_M) (hs : rg s) : f_J2_isEmpty (some la) (H c e s b) = some (ii (if s = 0 then 1 else 0)) := by
  unfold f_J2_isEmpty
  rw [h.g2, Option.bind_some]
  simp only [show (0 : Int32) = ii 0 from rfl, ii_eq (a := s) (b := 0) hs (by omega)]
  split <;> rfl
theorem chk (m : fk_M) {i s : Int} (h0 : 0 ≤ i) (h1 : i < s) (h2 : s ≤ 100000) : f_J12_checkIndex (ii i) (ii s) m = some (ii i) := by
  unfold f_J12_checkIndex f_J11_checkIndex
  rw [if_neg (by rw [show (0 : Int32) = ii 0 from rfl, ii_lt (by omega) (by omega)]; omega), if_pos (by rw [ii_lt (by omega) (by omega)]; exact h1), Option.bind_some]
theorem LH.get (h : LH H la out) {c i s : Int} {ea cap : Nat} {w : Bool} {gl : Nat → Option Nat} {b : fk_M} (hb : b ea = some (w, aQ cap gl)) (ho : out ea) (h0 : 0 ≤ i) (h1 : i < s) (h2 : s ≤ (cap : Int)) (h3 : s ≤ 100000) : f_J2_get (some la) (ii i) (H c (some ea) s b) = some (gl i.toNat) := by
  unfold f_J2_get f_J2_elementData
  have e1 : H c (some ea) s b ea = some (w, aQ cap gl) := (h.2.2.2.2.1 c (some ea) s b ea ho).trans hb
  rw [h.g2, Option.bind_some, chk _ h0 h1 h3, Option.bind_some, h.o, Option.bind_some, h.g1, Option.bind_some, aR_of e1 h0 (by omega) (by omega), Option.bind_some, Option.bind_some]
theorem LH.add (h : LH H la out) {c : Int} {ea cap sz n k s ci : Nat} {w : Bool} {V : Nat → fk_T} {gl : Nat → Option Nat} {b : fk_M} (g : Nat → Nat) (hb : b ea = some (true, aQ cap gl)) (ho : out ea) (h1 : sz < cap) (h2 : cap ≤ 1000) (hs : b s = some (w, oB ci V)) (hso : out s) (hci : ci = 6 ∨ ci = 11 ∨ ci = 12 ∨ ci = 13) : f_J2_add g (some la) (some s) n k (H c (some ea) sz b) = some (1, n, k, H (c + 1) (some ea) ((sz : Int) + 1) (fk_up b ea (aQ cap (va_up gl sz (some s))))) := by
  unfold f_J2_add f_J2_add_2 f_J2_add_2_J11
  have e1 : H (c + 1) (some ea) sz b ea = some (true, aQ cap gl) := (h.2.2.2.2.1 _ _ _ _ _ ho).trans hb
  have e2 : H (c + 1) (some ea) sz b s = some (w, oB ci V) := (h.2.2.2.2.1 _ _ _ _ _ hso).trans hs
  rw [h.g0, Option.bind_some, show (1 : Int32) = ii 1 from rfl, ii_add, h.2.1, Option.bind_some, h.g1, Option.bind_some, h.g2, Option.bind_some, h.o, Option.bind_some, aLn_ofR e1, Option.bind_some, if_neg (by rw [ii_eq (by omega) (by omega)]; omega), sR_of (some s) e1 (show (0 : Int) ≤ sz by omega) (by omega) (by omega) (fk_ok_of e2 hci), Option.bind_some, h.2.2.2.2.2 _ _ _ _ _ _ ho, ii_add, h.2.2.2.1, Option.bind_some]
  rfl
theorem LH.add0 (h : LH H la out) {c : Int} {n k s ci : Nat} {w w0 : Bool} {V : Nat → fk_T} {gl : Nat → Option Nat} {b : fk_M} (g : Nat → Nat) (hb : b (g 40) = some (w0, aQ 0 gl)) (ho : out (g 40)) (hn : out n) (hs : b s = some (w, oB ci V)) (hso : out s) (hsn : s ≠ n) (hci : ci = 6 ∨ ci = 11 ∨ ci = 12 ∨ ci = 13) : f_J2_add g (some la) (some s) n k (H c (some (g 40)) 0 b) = some (1, n + 1, k + 10, H (c + 1) (some n) 1 (fk_up b n (aQ 10 (va_up (fun _ => none) 0 (some s))))) := by
  unfold f_J2_add f_J2_add_2 f_J2_add_2_J11 f_J2_grow f_J2_grow_2
  have e1 : H (c + 1) (some (g 40)) 0 b (g 40) = some (w0, aQ 0 gl) := (h.2.2.2.2.1 _ _ _ _ _ ho).trans hb
  have e2 : H (c + 1) (some n) 0 (fk_up b n (aQ 10 (fun _ => none))) s = some (w, oB ci V) := (h.2.2.2.2.1 _ _ _ _ _ hso).trans ((up_ne _ _ hsn).trans hs)
  have e3 : H (c + 1) (some n) 0 (fk_up b n (aQ 10 (fun _ => none))) n = some (true, aQ 10 (fun _ => none)) := (h.2.2.2.2.1 _ _ _ _ _ hn).trans (up_eq ..)
  have e4 : i_max (10 : Int32) (ii (0 + 1)) = ii 10 := by decide
  have e5 : nQ n (H (c + 1) (some (g 40)) 0 b) (ii 10) = some (H (c + 1) (some (g 40)) 0 (fk_up b n (aQ 10 (fun _ => none)))) := by
    rw [nQ_of n _ (by omega) (by omega), h.2.2.2.2.2 _ _ _ _ _ _ hn]
    rfl
  have e6 : sR (H (c + 1) (some n) 0 (fk_up b n (aQ 10 (fun _ => none)))) (some n) (ii 0) (some s) = some (H (c + 1) (some n) 0 (fk_up b n (aQ 10 (va_up (fun _ => none) 0 (some s))))) := by
    rw [sR_of (some s) e3 (show (0 : Int) ≤ 0 by omega) (by omega) (by omega) (fk_ok_of e2 hci), h.2.2.2.2.2 _ _ _ _ _ _ hn, up_up]
    rfl
  have h1 : (1 : Int32) = ii 1 := rfl
  have c1 : ii 0 = ii ((0 : Nat) : Int) := rfl
  have c2 : ¬ (0 : Int32) < ii ((0 : Nat) : Int) := by decide
  simp only [h.g0, h.g1, h.g2, h.o, Option.bind_some, h1, ii_add, h.2.1, aLn_ofR e1, if_pos c1, if_neg c2, if_true, e4, e5, h.2.2.1, bn4_some, e6, h.2.2.2.1, bn3_some]
  rfl
theorem LH.addG (h : LH H la out) {c : Int} {ea cap n k s ci : Nat} {w : Bool} {V : Nat → fk_T} {gl : Nat → Option Nat} {b : fk_M} (g : Nat → Nat) (hb : b ea = some (true, aQ cap gl)) (ho : out ea) (hn : out n) (hne : ea ≠ n) (hc : cap = 10 ∨ cap = 15) (hs : b s = some (w, oB ci V)) (hso : out s) (hsn : s ≠ n) (hci : ci = 6 ∨ ci = 11 ∨ ci = 12 ∨ ci = 13) (hk : ∀ i, i < cap → ∃ t ci w V, gl i = some t ∧ b t = some (w, oB ci V) ∧ out t ∧ t ≠ n ∧ (ci = 6 ∨ ci = 11 ∨ ci = 12 ∨ ci = 13)) : f_J2_add g (some la) (some s) n k (H c (some ea) cap b) = some (1, n + 1, k + (cap + cap / 2), H (c + 1) (some n) ((cap : Int) + 1) (fk_up b n (aQ (cap + cap / 2) (va_up (va_cpy gl (fun _ => none) 0 0 cap) cap (some s))))) := by
  have e1 : H (c + 1) (some ea) cap b ea = some (true, aQ cap gl) := (h.2.2.2.2.1 _ _ _ _ _ ho).trans hb
  obtain ⟨b1, hb1⟩ : ∃ b1, b1 = fk_up b n (aQ (cap + cap / 2) (fun _ => none)) := ⟨_, rfl⟩
  have e2 : H (c + 1) (some ea) cap b1 ea = some (true, aQ cap gl) := (h.2.2.2.2.1 _ _ _ _ _ ho).trans (by rw [hb1, up_ne _ _ hne, hb])
  have e3 : H (c + 1) (some ea) cap b1 n = some (true, aQ (cap + cap / 2) (fun _ => none)) := (h.2.2.2.2.1 _ _ _ _ _ hn).trans (by rw [hb1, up_eq])
  have hn0 : ((cap + cap / 2 : Nat) : Int) = (cap : Int) + (cap : Int) / 2 := by omega
  have e5 : nQ n (H (c + 1) (some ea) cap b) (ii ((cap : Int) + (cap : Int) / 2)) = some (H (c + 1) (some ea) cap b1) := by
    rw [nQ_of n _ (by omega) (by omega), h.2.2.2.2.2 _ _ _ _ _ _ hn, hb1, ← hn0]
    rfl
  have e6 : cpR (H (c + 1) (some ea) cap b1) (some ea) (ii 0) (some n) (ii 0) (ii cap) = some (H (c + 1) (some ea) cap (fk_up b n (aQ (cap + cap / 2) (va_cpy gl (fun _ => none) 0 0 cap)))) := by
    rw [cpR_of e2 e3 (by omega) (by omega) (by omega) (by omega) (by omega) (by omega) (by omega) (by omega) (fun i hi => by
      obtain ⟨t, ci', w', V', k1, k2, k3, k4, k5⟩ := hk i (by omega)
      rw [show (0 : Int).toNat + i = i by omega, k1]
      exact fk_ok_of ((h.2.2.2.2.1 _ _ _ _ _ k3).trans (by rw [hb1, up_ne _ _ k4, k2])) k5), h.2.2.2.2.2 _ _ _ _ _ _ hn, hb1, up_up]
    rfl
  have e7 : H (c + 1) (some n) cap (fk_up b n (aQ (cap + cap / 2) (va_cpy gl (fun _ => none) 0 0 cap))) n = some (true, aQ (cap + cap / 2) (va_cpy gl (fun _ => none) 0 0 cap)) := (h.2.2.2.2.1 _ _ _ _ _ hn).trans (up_eq ..)
  have e8 : H (c + 1) (some n) cap (fk_up b n (aQ (cap + cap / 2) (va_cpy gl (fun _ => none) 0 0 cap))) s = some (w, oB ci V) := (h.2.2.2.2.1 _ _ _ _ _ hso).trans ((up_ne _ _ hsn).trans hs)
  have e9 : f_J7_newLength (ii cap) (ii ((cap : Int) + 1) - ii cap) (i_shr (ii cap) 1) (H (c + 1) (some ea) cap b) = some (ii ((cap : Int) + (cap : Int) / 2)) := by
    rcases hc with rfl | rfl <;> rfl
  have e10 : i_min (ii cap) (ii ((cap : Int) + (cap : Int) / 2)) = ii cap := by
    rw [ii_min (by omega) (by omega)]
    congr 1
    omega
  unfold f_J2_add f_J2_add_2 f_J2_add_2_J11 f_J2_grow f_J2_grow_2 f_J2_grow_2_J20 f_J9_copyOf_2 f_J9_copyOf_3
  have h1 : (1 : Int32) = ii 1 := rfl
  have h0 : (0 : Int32) = ii 0 := rfl
  have c2 : ii 0 < ii (cap : Int) := by
    rw [ii_lt (by omega) (by omega)]
    omega
  have hq : isQ (H (c + 1) (some ea) cap b) (some ea) = some () := by
    unfold isQ
    simp only [e1]
  have e11 : sR (H (c + 1) (some n) cap (fk_up b n (aQ (cap + cap / 2) (va_cpy gl (fun _ => none) 0 0 cap)))) (some n) (ii cap) (some s) = some (H (c + 1) (some n) cap (fk_up b n (aQ (cap + cap / 2) (va_up (va_cpy gl (fun _ => none) 0 0 cap) cap (some s))))) := by
    rw [sR_of (some s) e7 (show (0 : Int) ≤ cap by omega) (by omega) (by omega) (fk_ok_of e8 hci), h.2.2.2.2.2 _ _ _ _ _ _ hn, up_up]
    rfl
  rw [h1] at e9
  have e12 : (ii ((cap : Int) + (cap : Int) / 2)).toNatClampNeg = cap + cap / 2 := by
    rw [ii_nat (by omega) (by omega)]
    omega
  simp only [h.g0, h.g1, h.g2, h.o, Option.bind_some, h1, h0, ii_add, h.2.1, aLn_ofR e1, if_true, if_pos c2, e9, hq, e5, aLn_ofR e2, e10, e6, h.2.2.1, bn4_some, e11, h.2.2.2.1, bn3_some, e12]
theorem LH.rem0 (h : LH H la out) {c : Int} {ea cap sz : Nat} {gl : Nat → Option Nat} {b : fk_M} (hb : b ea = some (true, aQ cap gl)) (ho : out ea) (h1 : sz ≤ cap) (h2 : cap ≤ 1000) (h3 : 2 ≤ sz) (hk : ∀ i, i < sz → ∃ t ci w V, gl i = some t ∧ b t = some (w, oB ci V) ∧ out t ∧ (ci = 6 ∨ ci = 11 ∨ ci = 12 ∨ ci = 13)) : f_J2_remove (some la) (ii 0) (H c (some ea) sz b) = some (gl 0, H (c + 1) (some ea) ((sz : Int) - 1) (fk_up b ea (aQ cap (va_up (va_cpy gl gl 1 0 (sz - 1)) (sz - 1) none)))) := by
  have e1 : ∀ c s, H c (some ea) s b ea = some (true, aQ cap gl) := fun c s => (h.2.2.2.2.1 _ _ _ _ _ ho).trans hb
  have e2 : cpR (H (c + 1) (some ea) sz b) (some ea) (ii (0 + 1)) (some ea) (ii 0) (ii ((sz : Int) - 1 - 0)) = some (H (c + 1) (some ea) sz (fk_up b ea (aQ cap (va_cpy gl gl 1 0 (sz - 1))))) := by
    rw [cpR_of (e1 _ _) (e1 _ _) (by omega) (by omega) (by omega) (by omega) (by omega) (by omega) (by omega) (by omega) (fun i hi => by
      obtain ⟨t, ci', w', V', k1, k2, k3, k5⟩ := hk (1 + i) (by omega)
      rw [show (0 + 1 : Int).toNat + i = 1 + i by omega, k1]
      exact fk_ok_of ((h.2.2.2.2.1 _ _ _ _ _ k3).trans k2) k5), h.2.2.2.2.2 _ _ _ _ _ _ ho, show ((sz : Int) - 1 - 0).toNat = sz - 1 by omega]
    rfl
  have e3 : H (c + 1) (some ea) ((sz : Int) - 1) (fk_up b ea (aQ cap (va_cpy gl gl 1 0 (sz - 1)))) ea = some (true, aQ cap (va_cpy gl gl 1 0 (sz - 1))) := (h.2.2.2.2.1 _ _ _ _ _ ho).trans (up_eq ..)
  unfold f_J2_remove f_J2_fastRemove f_J2_fastRemove_J34
  rw [h.g2, Option.bind_some, chk _ (by omega) (by omega) (by omega), Option.bind_some, h.g1, Option.bind_some, aR_of (e1 _ _) (by omega) (by omega) (by omega), Option.bind_some, h.o, Option.bind_some, h.g0, Option.bind_some, show (1 : Int32) = ii 1 from rfl, ii_add, h.2.1, Option.bind_some, h.g2, Option.bind_some, ii_sub, if_neg (by rw [ii_le (by omega) (by omega)]; omega), ii_add, ii_sub, e2, Option.bind_some, h.2.2.2.1, Option.bind_some, sR_of none e3 (by omega) (by omega) (by omega) rfl, Option.bind_some, Option.bind_some, h.2.2.2.2.2 _ _ _ _ _ _ ho, up_up, show ((sz : Int) - 1).toNat = sz - 1 by omega]
  rfl
theorem LH.remL (h : LH H la out) {c : Int} {ea cap sz : Nat} {gl : Nat → Option Nat} {b : fk_M} (hb : b ea = some (true, aQ cap gl)) (ho : out ea) (h1 : sz ≤ cap) (h2 : cap ≤ 1000) (h3 : 1 ≤ sz) : f_J2_remove (some la) (ii ((sz : Int) - 1)) (H c (some ea) sz b) = some (gl (sz - 1), H (c + 1) (some ea) ((sz : Int) - 1) (fk_up b ea (aQ cap (va_up gl (sz - 1) none)))) := by
  have e1 : ∀ c s, H c (some ea) s b ea = some (true, aQ cap gl) := fun c s => (h.2.2.2.2.1 _ _ _ _ _ ho).trans hb
  unfold f_J2_remove f_J2_fastRemove f_J2_fastRemove_J34
  rw [h.g2, Option.bind_some, chk _ (by omega) (by omega) (by omega), Option.bind_some, h.g1, Option.bind_some, aR_of (e1 _ _) (by omega) (by omega) (by omega), Option.bind_some, h.o, Option.bind_some, h.g0, Option.bind_some, show (1 : Int32) = ii 1 from rfl, ii_add, h.2.1, Option.bind_some, h.g2, Option.bind_some, ii_sub, if_pos (by rw [ii_le (by omega) (by omega)]; omega), h.2.2.2.1, Option.bind_some, sR_of none (e1 _ _) (by omega) (by omega) (by omega) rfl, Option.bind_some, Option.bind_some, h.2.2.2.2.2 _ _ _ _ _ _ ho, show ((sz : Int) - 1).toNat = sz - 1 by omega]
theorem LH.clear (h : LH H la out) {c : Int} {ea cap sz : Nat} {gl : Nat → Option Nat} {b : fk_M} (hb : b ea = some (true, aQ cap gl)) (ho : out ea) (h1 : sz ≤ cap) (h2 : cap ≤ 1000) : ∃ gl', f_J2_clear (some la) (H c (some ea) sz b) = some (H (c + 1) (some ea) 0 (fk_up b ea (aQ cap gl'))) := by
  unfold f_J2_clear
  rw [h.g0, Option.bind_some, show (1 : Int32) = ii 1 from rfl, ii_add, h.2.1, Option.bind_some, h.g1, Option.bind_some, h.g2, Option.bind_some, show (0 : Int32) = ii 0 from rfl, h.2.2.2.1, Option.bind_some]
  have hs : H (c + 1) (some ea) 0 b = H (c + 1) (some ea) 0 (fk_up b ea (aQ cap gl)) := by
    congr 1
    funext j
    by_cases hj : j = ea
    · subst hj
      rw [up_eq, hb]
    · rw [up_ne _ _ hj]
  rw [hs]
  have hL := loop_ex (fun N (_ : Unit) k (y : Nat → Option Nat) => f_J2_clear_L27 (some ea) (ii sz) N (ii k) (H (c + 1) (some ea) 0 (fk_up b ea (aQ cap y)))) (fun u k => u) (fun u y => some (H (c + 1) (some ea) 0 (fk_up b ea (aQ cap y)))) (fun u k y => True) (lo := 0) (hi := sz) ?_ ?_ sz fk_fuel () 0 gl (by omega) (by omega) (by unfold fk_fuel; omega) trivial
  · obtain ⟨y, g1, -⟩ := hL
    exact ⟨y, g1⟩
  · intro N u y _
    try dsimp only
    rw [f_J2_clear_L27, if_pos (by rw [ii_le (by omega) (by omega)]; omega)]
  · intro N u k y k1 k2 _
    refine ⟨va_up y k.toNat none, trivial, ?_⟩
    have e3 : H (c + 1) (some ea) 0 (fk_up b ea (aQ cap y)) ea = some (true, aQ cap y) := (h.2.2.2.2.1 _ _ _ _ _ ho).trans (up_eq ..)
    try dsimp only
    rw [f_J2_clear_L27, if_neg (by rw [ii_le (by omega) (by omega)]; omega), sR_of none e3 (by omega) (by omega) (by omega) rfl, Option.bind_some, h.2.2.2.2.2 _ _ _ _ _ _ ho, up_up, show (1 : Int32) = ii 1 from rfl, ii_add]
theorem LH.clear0 (h : LH H la out) {c : Int} (e : Option Nat) (b : fk_M) : f_J2_clear (some la) (H c e 0 b) = some (H (c + 1) e 0 b) := by
  unfold f_J2_clear
  rw [h.g0, Option.bind_some, show (1 : Int32) = ii 1 from rfl, ii_add, h.2.1, Option.bind_some, h.g1, Option.bind_some, h.g2, Option.bind_some, show (0 : Int32) = ii 0 from rfl, h.2.2.2.1, Option.bind_some]
  rw [show fk_fuel = 3999 + 1 from rfl, f_J2_clear_L27, if_pos (by decide)]
end LHS
theorem u1_self {F : Nat → Int} {k : Nat} {v : Int} (h : F k = v) : u1 F k v = F := by
  funext j
  unfold u1
  split
  · rename_i hj
    rw [hj, h]
  · rfl
theorem uP_self {F : Nat → Option Nat} {k : Nat} {v : Option Nat} (h : F k = v) : uP F k v = F := by
  funext j
  unfold uP
  split
  · rename_i hj
    rw [hj, h]
  · rfl
theorem u1_cm (F : Nat → Int) {k j : Nat} (v w : Int) (h : k ≠ j) : u1 (u1 F k v) j w = u1 (u1 F j w) k v := by
  funext t
  unfold u1
  by_cases h1 : t = j
  · subst h1
    rw [if_pos rfl, if_neg (fun e => h e.symm), if_pos rfl]
  · rw [if_neg h1]
    by_cases h2 : t = k
    · rw [if_pos h2, if_pos h2]
    · rw [if_neg h2, if_neg h2, if_neg h1]
theorem uP_uP (F : Nat → Option Nat) (k : Nat) (v w : Option Nat) : uP (uP F k v) k w = uP F k w := by
  funext j
  unfold uP
  split <;> rfl
abbrev Ob (x : Nat) (q : Nat) : Prop := q < x ∨ x + 24 ≤ q
theorem LH2 (x : Nat) (F : Nat → Int) (P : Nat → Option Nat) (A : Nat → Int → Int) (f l : Nat → Int) (a : Nat → Int → Int) (b : fk_M) : LH (fun c e s b => hp x (u1 (u1 F 100 c) 101 s) (uP P 100 e) A f l a b) (x + 2) (Ob x) := by
  refine ⟨fun c e s b => ⟨_, hp_2 .., ?_, ?_, ?_⟩, fun c e s b v => ?_, fun c e s b v => ?_, fun c e s b v => ?_, fun c e s b q h => hp_out _ _ _ _ _ _ _ _ h, fun c e s b q z h => hp_bu _ _ _ _ _ _ _ _ z h⟩
  · show tI (ii (u1 (u1 F 100 c) 101 s 100)) = _
    rw [u1_ne _ _ (by omega), u1_eq]
  · show tR (uP P 100 e 100) = _
    rw [uP_eq]
  · show tI (ii (u1 (u1 F 100 c) 101 s 101)) = _
    rw [u1_eq]
  · rw [pl2_0, u1_cm _ _ _ (show 101 ≠ 100 by omega), u1_u1]
  · rw [pl2_1, uP_uP]
  · rw [pl2_2, u1_u1]
theorem LH3 (x : Nat) (F : Nat → Int) (P : Nat → Option Nat) (A : Nat → Int → Int) (f l : Nat → Int) (a : Nat → Int → Int) (b : fk_M) : LH (fun c e s b => hp x (u1 (u1 F 110 c) 111 s) (uP P 110 e) A f l a b) (x + 3) (Ob x) := by
  refine ⟨fun c e s b => ⟨_, hp_3 .., ?_, ?_, ?_⟩, fun c e s b v => ?_, fun c e s b v => ?_, fun c e s b v => ?_, fun c e s b q h => hp_out _ _ _ _ _ _ _ _ h, fun c e s b q z h => hp_bu _ _ _ _ _ _ _ _ z h⟩
  · show tI (ii (u1 (u1 F 110 c) 111 s 110)) = _
    rw [u1_ne _ _ (by omega), u1_eq]
  · show tR (uP P 110 e 110) = _
    rw [uP_eq]
  · show tI (ii (u1 (u1 F 110 c) 111 s 111)) = _
    rw [u1_eq]
  · rw [pl3_0, u1_cm _ _ _ (show 111 ≠ 110 by omega), u1_u1]
  · rw [pl3_1, uP_uP]
  · rw [pl3_2, u1_u1]
