/-! PLAIN 26: a list grows; a stage's cells; a stage is copied -/
set_option maxRecDepth 100000
/-- the cells of a list: the empty array that is there from the start, or one of its own -/
def Lk (b : fk_M) (e0 x : Nat) (sz : Nat) (ea cap : Nat) (gl : Nat → Option Nat) : Prop := (cap = 0 ∧ ea = e0 ∧ sz = 0 ∧ ∃ w, b ea = some (w, aQ 0 gl)) ∨ ((cap = 10 ∨ cap = 15 ∨ cap = 22) ∧ x + 24 ≤ ea ∧ sz ≤ cap ∧ b ea = some (true, aQ cap gl))
theorem LH.push {H : Int → Option Nat → Int → fk_M → fk_M} {la x : Nat} (h : LH H la (Ob x)) {c : Int} {ea cap sz n k s ci : Nat} {w : Bool} {V : Nat → fk_T} {gl : Nat → Option Nat} {b : fk_M} (g : Nat → Nat) (hx : x + 24 ≤ n) (hg : g 40 < x) (hfr : ∀ q, n ≤ q → b q = none) (hl : Lk b (g 40) x sz ea cap gl) (hsz : sz < 22) (hs : b s = some (w, oB ci V)) (hso : x + 24 ≤ s) (hci : ci = 6 ∨ ci = 11 ∨ ci = 12 ∨ ci = 13) (hk : ∀ i, i < sz → ∃ t ci w V, gl i = some t ∧ b t = some (w, oB ci V) ∧ x + 24 ≤ t ∧ (ci = 6 ∨ ci = 11 ∨ ci = 12 ∨ ci = 13)) : ∃ ea' cap' gl' n' k' b', f_J2_add g (some la) (some s) n k (H c (some ea) sz b) = some (1, n', k', H (c + 1) (some ea') ((sz : Int) + 1) b') ∧ Lk b' (g 40) x (sz + 1) ea' cap' gl' ∧ cap' ≠ 0 ∧ (∀ i, i < sz → gl' i = gl i) ∧ gl' sz = some s ∧ (∀ q, q ≠ ea' → b' q = b q) ∧ ((n' = n ∧ ea' = ea ∧ cap ≠ 0) ∨ (n' = n + 1 ∧ ea' = n)) ∧ k ≤ k' ∧ k' ≤ k + 22 := by
  have hsn : s ≠ n := fun e => by
    rw [e, hfr n (Nat.le_refl n)] at hs
    cases hs
  rcases hl with ⟨rfl, rfl, rfl, w0, hb⟩ | ⟨hc, h1, h2, hb⟩
  · refine ⟨n, 10, _, n + 1, k + 10, _, h.add0 g hb (Or.inl hg) (Or.inr hx) hs (Or.inr hso) hsn hci, Or.inr ⟨Or.inl rfl, hx, by omega, up_eq ..⟩, by omega, fun i hi => by omega, ?_, fun q hq => up_ne _ _ hq, Or.inr ⟨rfl, rfl⟩, by omega, by omega⟩
    unfold va_up
    rw [if_pos rfl]
  · by_cases hlt : sz < cap
    · refine ⟨ea, cap, _, n, k, _, h.add g hb (Or.inr h1) hlt (by omega) hs (Or.inr hso) hci, Or.inr ⟨hc, h1, by omega, up_eq ..⟩, by omega, fun i hi => ?_, ?_, fun q hq => up_ne _ _ hq, Or.inl ⟨rfl, rfl, by omega⟩, by omega, by omega⟩
      · unfold va_up
        rw [if_neg (by omega)]
      · unfold va_up
        rw [if_pos rfl]
    · obtain rfl : sz = cap := by omega
      have hne : ea ≠ n := fun e => by
        rw [e, hfr n (Nat.le_refl n)] at hb
        cases hb
      refine ⟨n, sz + sz / 2, _, n + 1, k + (sz + sz / 2), _, h.addG g hb (Or.inr h1) (Or.inr hx) hne (by omega) hs (Or.inr hso) hsn hci (fun i hi => ?_), Or.inr ⟨by omega, hx, by omega, up_eq ..⟩, by omega, fun i hi => ?_, ?_, fun q hq => up_ne _ _ hq, Or.inr ⟨rfl, rfl⟩, by omega, by omega⟩
      · obtain ⟨t, ci', w', V', k1, k2, k3, k4⟩ := hk i hi
        have htn : t ≠ n := fun e => by
          rw [e, hfr n (Nat.le_refl n)] at k2
          cases k2
        exact ⟨t, ci', w', V', k1, k2, Or.inr k3, htn, k4⟩
      · unfold va_up va_cpy
        rw [if_neg (by omega), if_pos (by omega), show 0 + (i - 0) = i by omega]
      · unfold va_up
        rw [if_pos rfl]
/-- four cells from n on -/
def c4 (m : fk_M) (n : Nat) (e0 e1 e2 e3 : Option fk_C) : fk_M := fun q => if q = n then (match e0 with | some e => some (true, e) | none => m q) else if q = n + 1 then (match e1 with | some e => some (true, e) | none => m q) else if q = n + 2 then (match e2 with | some e => some (true, e) | none => m q) else if q = n + 3 then (match e3 with | some e => some (true, e) | none => m q) else m q
theorem c4_0 (m : fk_M) (n : Nat) (e : fk_C) (e1 e2 e3 : Option fk_C) : c4 m n (some e) e1 e2 e3 n = some (true, e) := by
  unfold c4
  rw [if_pos rfl]
theorem c4_1 (m : fk_M) (n : Nat) (e : fk_C) (e0 e2 e3 : Option fk_C) : c4 m n e0 (some e) e2 e3 (n + 1) = some (true, e) := by
  unfold c4
  rw [if_neg (by omega), if_pos rfl]
theorem c4_2 (m : fk_M) (n : Nat) (e : fk_C) (e0 e1 e3 : Option fk_C) : c4 m n e0 e1 (some e) e3 (n + 2) = some (true, e) := by
  unfold c4
  rw [if_neg (by omega), if_neg (by omega), if_pos rfl]
theorem c4_3 (m : fk_M) (n : Nat) (e : fk_C) (e0 e1 e2 : Option fk_C) : c4 m n e0 e1 e2 (some e) (n + 3) = some (true, e) := by
  unfold c4
  rw [if_neg (by omega), if_neg (by omega), if_neg (by omega), if_pos rfl]
theorem c4_out (m : fk_M) {n q : Nat} (e0 e1 e2 e3 : Option fk_C) (h : q < n ∨ n + 4 ≤ q) : c4 m n e0 e1 e2 e3 q = m q := by
  unfold c4
  rw [if_neg (by omega), if_neg (by omega), if_neg (by omega), if_neg (by omega)]
theorem c4_u (m : fk_M) (n : Nat) (e : fk_C) : fk_up m n e = c4 m n (some e) none none none := by
  funext q
  unfold fk_up c4
  by_cases h : q = n
  · rw [if_pos h, if_pos h]
  · rw [if_neg h, if_neg h]
    (repeat' split) <;> first | rfl | (rename_i h9; cases h9)
theorem c4_u0 (m : fk_M) (n : Nat) (e : fk_C) (e0 e1 e2 e3 : Option fk_C) : fk_up (c4 m n e0 e1 e2 e3) n e = c4 m n (some e) e1 e2 e3 := by
  funext q
  unfold fk_up c4
  by_cases h : q = n
  · rw [if_pos h, if_pos h]
  · rw [if_neg h, if_neg h, if_neg h]
theorem c4_u1 (m : fk_M) (n : Nat) (e : fk_C) (e0 e1 e2 e3 : Option fk_C) : fk_up (c4 m n e0 e1 e2 e3) (n + 1) e = c4 m n e0 (some e) e2 e3 := by
  funext q
  unfold fk_up c4
  by_cases h : q = n + 1
  · rw [if_pos h, if_neg (by omega), if_pos h]
  · rw [if_neg h, if_neg h, if_neg h]
theorem c4_u2 (m : fk_M) (n : Nat) (e : fk_C) (e0 e1 e2 e3 : Option fk_C) : fk_up (c4 m n e0 e1 e2 e3) (n + 2) e = c4 m n e0 e1 (some e) e3 := by
  funext q
  unfold fk_up c4
  by_cases h : q = n + 2
  · rw [if_pos h, if_neg (by omega), if_neg (by omega), if_pos h]
  · rw [if_neg h, if_neg h, if_neg h]
theorem c4_u3 (m : fk_M) (n : Nat) (e : fk_C) (e0 e1 e2 e3 : Option fk_C) : fk_up (c4 m n e0 e1 e2 e3) (n + 3) e = c4 m n e0 e1 e2 (some e) := by
  funext q
  unfold fk_up c4
  by_cases h : q = n + 3
  · rw [if_pos h, if_neg (by omega), if_neg (by omega), if_neg (by omega), if_pos h]
  · rw [if_neg h, if_neg h, if_neg h]
/-- the cells of a stage -/
def Sg (b : fk_M) (pa s : Nat) (R : Int → Int) : Prop :=
  (∃ V, b s = some (true, oB 13 V) ∧ V 0 = tR (some pa) ∧ V 1 = tR (some (s + 1)) ∧ V 2 = tR (some (s + 2)) ∧ V 3 = tR (some (s + 3)) ∧ V 4 = tI (ii (R 35))) ∧
  (∃ g, b (s + 1) = some (true, aN 1 5 g) ∧ ∀ i : Nat, i < 5 → g i = ii (R i)) ∧
  (∃ g, b (s + 2) = some (true, aN 1 5 g) ∧ ∀ i : Nat, i < 5 → g i = ii (R (5 + i))) ∧
  (∃ g, b (s + 3) = some (true, aN 2 25 g) ∧ ∀ i : Nat, i < 25 → g i = ii (R (10 + i)))
theorem Sg.cg {b b' : fk_M} {pa s : Nat} {R R' : Int → Int} (h : Sg b pa s R) (hb : ∀ q, s ≤ q → q < s + 4 → b' q = b q) (hr : ∀ t, 0 ≤ t → t < 36 → R' t = R t) : Sg b' pa s R' := by
  obtain ⟨⟨V, h1, h2, h3, h4, h5, h6⟩, ⟨g1, i1, j1⟩, ⟨g2, i2, j2⟩, ⟨g3, i3, j3⟩⟩ := h
  refine ⟨⟨V, (hb s (by omega) (by omega)).trans h1, h2, h3, h4, h5, by rw [h6, hr 35 (by omega) (by omega)]⟩, ⟨g1, (hb _ (by omega) (by omega)).trans i1, fun i hi => by rw [j1 i hi, hr i (by omega) (by omega)]⟩, ⟨g2, (hb _ (by omega) (by omega)).trans i2, fun i hi => by rw [j2 i hi, hr (5 + i) (by omega) (by omega)]⟩, ⟨g3, (hb _ (by omega) (by omega)).trans i3, fun i hi => by rw [j3 i hi, hr (10 + i) (by omega) (by omega)]⟩⟩
/-- a stage without its numbers -/
theorem c_init {m : fk_M} {n k : Nat} {V : Nat → fk_T} {pa : Option Nat} : f_X15_init (some n) pa (n + 1) k (c4 m n (some (oB 13 V)) none none none) = some (n + 4, k + 35, c4 m n (some (oB 13 (fk_set (fk_set (fk_set (fk_set V 1 (tR (some (n + 1)))) 2 (tR (some (n + 2)))) 3 (tR (some (n + 3)))) 0 (tR pa)))) (some (aN 1 5 (fun _ => 0))) (some (aN 1 5 (fun _ => 0))) (some (aN 2 25 (fun _ => 0)))) := by
  unfold f_X15_init
  have n1 : ∀ m', nA (n + 1) m' 1 5 = some (fk_up m' (n + 1) (aN 1 5 (fun _ => 0))) := fun m' => nA_of (n + 1) m' 1 (v := 5) (by omega) (by omega)
  have n2 : ∀ m', nA (n + 1 + 1) m' 1 5 = some (fk_up m' (n + 2) (aN 1 5 (fun _ => 0))) := fun m' => nA_of (n + 2) m' 1 (v := 5) (by omega) (by omega)
  have n3 : ∀ m', nA (n + 1 + 1 + 1) m' 2 25 = some (fk_up m' (n + 3) (aN 2 25 (fun _ => 0))) := fun m' => nA_of (n + 3) m' 2 (v := 25) (by omega) (by omega)
  have p : ∀ V e1 e2 e3 k v, pV (c4 m n (some (oB 13 V)) e1 e2 e3) (some n) 13 k v = some (c4 m n (some (oB 13 (fk_set V k v))) e1 e2 e3) := fun V e1 e2 e3 k v => by rw [pV_of k v (c4_0 ..), c4_u0]
  simp only [show isS (some n) = some () from rfl, Option.bind_some, n1, n2, n3, p, c4_u1, c4_u2, c4_u3]
  rfl
theorem st_copy {m : fk_M} {pa s n k : Nat} {R : Int → Int} (h : Sg m pa s R) (hn : s + 4 ≤ n) : ∃ m', f_X15_copy (some s) n k m = some (some n, n + 4, k + 40, m') ∧ Sg m' pa n R ∧ ∀ q, (q < n ∨ n + 4 ≤ q) → m' q = m q := by
  obtain ⟨⟨V, h1, h2, h3, h4, h5, h6⟩, ⟨g1, i1, j1⟩, ⟨g2, i2, j2⟩, ⟨g3, i3, j3⟩⟩ := h
  unfold f_X15_copy
  rw [c4_u]
  have o : ∀ e0 e1 e2 e3 q, s ≤ q → q < s + 4 → c4 m n e0 e1 e2 e3 q = m q := fun e0 e1 e2 e3 q q1 q2 => c4_out _ _ _ _ _ (by omega)
  have r0 : ∀ e0 e1 e2 e3, gR (c4 m n e0 e1 e2 e3) (some s) 13 0 = some (some pa) := fun e0 e1 e2 e3 => gR_of ((o _ _ _ _ s (by omega) (by omega)).trans h1) h2
  have r1 : ∀ e0 e1 e2 e3, gR (c4 m n e0 e1 e2 e3) (some s) 13 1 = some (some (s + 1)) := fun e0 e1 e2 e3 => gR_of ((o _ _ _ _ s (by omega) (by omega)).trans h1) h3
  have r2 : ∀ e0 e1 e2 e3, gR (c4 m n e0 e1 e2 e3) (some s) 13 2 = some (some (s + 2)) := fun e0 e1 e2 e3 => gR_of ((o _ _ _ _ s (by omega) (by omega)).trans h1) h4
  have r3 : ∀ e0 e1 e2 e3, gR (c4 m n e0 e1 e2 e3) (some s) 13 3 = some (some (s + 3)) := fun e0 e1 e2 e3 => gR_of ((o _ _ _ _ s (by omega) (by omega)).trans h1) h5
  have r4 : ∀ e0 e1 e2 e3, gI (c4 m n e0 e1 e2 e3) (some s) 13 4 = some (ii (R 35)) := fun e0 e1 e2 e3 => gI_of ((o _ _ _ _ s (by omega) (by omega)).trans h1) h6
  have rl : ∀ e0 e1 e2 e3, aLn (c4 m n e0 e1 e2 e3) (some (s + 3)) = some (ii 25) := fun e0 e1 e2 e3 => aLn_ofI ((o _ _ _ _ (s + 3) (by omega) (by omega)).trans i3)
  have w1 : ∀ V e2 e3 k, V 1 = tR (some (n + 1)) → gR (c4 m n (some (oB 13 V)) k e2 e3) (some n) 13 1 = some (some (n + 1)) := fun V e2 e3 k hv => gR_of (c4_0 ..) hv
  have w2 : ∀ V e2 e3 k, V 2 = tR (some (n + 2)) → gR (c4 m n (some (oB 13 V)) k e2 e3) (some n) 13 2 = some (some (n + 2)) := fun V e2 e3 k hv => gR_of (c4_0 ..) hv
  have w3 : ∀ V e2 e3 k, V 3 = tR (some (n + 3)) → gR (c4 m n (some (oB 13 V)) k e2 e3) (some n) 13 3 = some (some (n + 3)) := fun V e2 e3 k hv => gR_of (c4_0 ..) hv
  have k1 : ∀ e0 e2 e3, cpI (c4 m n e0 (some (aN 1 5 (fun _ => 0))) e2 e3) (some (s + 1)) 0 (some (n + 1)) 0 5 = some (c4 m n e0 (some (aN 1 5 (va_cpy g1 (fun _ => 0) 0 0 5))) e2 e3) := fun e0 e2 e3 => by
    rw [show (0 : Int32) = ii 0 from rfl, show (5 : Int32) = ii 5 from rfl, cpI_of ((o _ _ _ _ (s + 1) (by omega) (by omega)).trans i1) (c4_1 ..) (by omega) (by omega) (by omega) (by omega) (by omega) (by omega) (by omega) (by omega), c4_u1]
    rfl
  have k2 : ∀ e0 e1 e3, cpI (c4 m n e0 e1 (some (aN 1 5 (fun _ => 0))) e3) (some (s + 2)) 0 (some (n + 2)) 0 5 = some (c4 m n e0 e1 (some (aN 1 5 (va_cpy g2 (fun _ => 0) 0 0 5))) e3) := fun e0 e1 e3 => by
    rw [show (0 : Int32) = ii 0 from rfl, show (5 : Int32) = ii 5 from rfl, cpI_of ((o _ _ _ _ (s + 2) (by omega) (by omega)).trans i2) (c4_2 ..) (by omega) (by omega) (by omega) (by omega) (by omega) (by omega) (by omega) (by omega), c4_u2]
    rfl
  have k3 : ∀ e0 e1 e2, cpI (c4 m n e0 e1 e2 (some (aN 2 25 (fun _ => 0)))) (some (s + 3)) 0 (some (n + 3)) 0 (ii 25) = some (c4 m n e0 e1 e2 (some (aN 2 25 (va_cpy g3 (fun _ => 0) 0 0 25)))) := fun e0 e1 e2 => by
    rw [show (0 : Int32) = ii 0 from rfl, cpI_of ((o _ _ _ _ (s + 3) (by omega) (by omega)).trans i3) (c4_3 ..) (by omega) (by omega) (by omega) (by omega) (by omega) (by omega) (by omega) (by omega), c4_u3]
    rfl
  rw [r0, Option.bind_some, show isS (some n) = some () from rfl, Option.bind_some, c_init, bn3_some, r1, Option.bind_some, w1 _ _ _ _ rfl, Option.bind_some, k1, Option.bind_some, r2, Option.bind_some, w2 _ _ _ _ rfl, Option.bind_some, k2, Option.bind_some, r3, Option.bind_some, w3 _ _ _ _ rfl, Option.bind_some, Option.bind_some, rl, Option.bind_some, k3, Option.bind_some, r4, Option.bind_some, pV_of 4 (tI (ii (R 35))) (c4_0 ..), Option.bind_some, c4_u0]
  refine ⟨_, rfl, ⟨⟨_, c4_0 .., rfl, rfl, rfl, rfl, rfl⟩, ⟨_, c4_1 .., fun i hi => ?_⟩, ⟨_, c4_2 .., fun i hi => ?_⟩, ⟨_, c4_3 .., fun i hi => ?_⟩⟩, fun q hq => c4_out _ _ _ _ _ hq⟩
  · unfold va_cpy
    rw [if_pos (by omega), show 0 + (i - 0) = i by omega, j1 i hi]
  · unfold va_cpy
    rw [if_pos (by omega), show 0 + (i - 0) = i by omega, j2 i hi]
  · unfold va_cpy
    rw [if_pos (by omega), show 0 + (i - 0) = i by omega, j3 i hi]
theorem hp_fix (x : Nat) (F : Nat → Int) (P : Nat → Option Nat) (A : Nat → Int → Int) (f l : Nat → Int) (a : Nat → Int → Int) (b : fk_M) {m : fk_M} (h : ∀ j, j < 24 → m (x + j) = hp x F P A f l a b (x + j)) : m = hp x F P A f l a m := by
  funext q
  by_cases ho : q < x ∨ x + 24 ≤ q
  · rw [hp_out _ _ _ _ _ _ _ _ ho]
  · obtain ⟨o, rfl⟩ : ∃ o, q = x + o := ⟨q - x, by omega⟩
    rw [h o (by omega)]
    unfold hp
    repeat' split
    all_goals first | rfl | omega
