/-! PLAIN 20: masks of five bits, and into how many parts of nothing a set falls -/
set_option maxRecDepth 100000
theorem itr_end {α : Type} (s : α → Int → α) : ∀ (d : Nat) (k : Int) (u : α), itr s (d + 1) k u = s (itr s d k u) (k + d) := by
  intro d
  induction d with
  | zero =>
    intro k u
    show s u k = s u (k + ((0 : Nat) : Int))
    rw [show k + ((0 : Nat) : Int) = k from Int.add_zero k]
  | succ d ih =>
    intro k u
    show itr s (d + 1) (k + 1) (s u k) = s (itr s d (k + 1) (s u k)) (k + ((d + 1 : Nat) : Int))
    rw [ih (k + 1) (s u k), show k + 1 + (d : Int) = k + ((d + 1 : Nat) : Int) by omega]
def su (g : Int → Int) : Nat → Int
  | 0 => 0
  | n + 1 => su g n + g n
theorem itr_su (g : Int → Int) : ∀ n : Nat, itr (fun u q => u + g q) n 0 0 = su g n := by
  intro n
  induction n with
  | zero => rfl
  | succ n ih =>
    rw [itr_end, ih]
    show su g n + g (0 + (n : Int)) = su g n + g n
    rw [Int.zero_add]
theorem su_cg {g h : Int → Int} : ∀ n : Nat, (∀ k : Int, 0 ≤ k → k < n → g k = h k) → su g n = su h n := by
  intro n
  induction n with
  | zero => intro _; rfl
  | succ n ih =>
    intro hk
    show su g n + g n = su h n + h n
    rw [ih (fun k h1 h2 => hk k h1 (by omega)), hk n (by omega) (by omega)]
theorem su_sub (g h : Int → Int) : ∀ n : Nat, su (fun k => g k - h k) n = su g n - su h n := by
  intro n
  induction n with
  | zero => rfl
  | succ n ih =>
    show su (fun k => g k - h k) n + (g n - h n) = su g n + g n - (su h n + h n)
    rw [ih]
    omega
theorem su_add (g h : Int → Int) : ∀ n : Nat, su (fun k => g k + h k) n = su g n + su h n := by
  intro n
  induction n with
  | zero => rfl
  | succ n ih =>
    show su (fun k => g k + h k) n + (g n + h n) = su g n + g n + (su h n + h n)
    rw [ih]
    omega
theorem su_0 : ∀ n : Nat, su (fun _ => 0) n = 0 := by
  intro n
  induction n with
  | zero => rfl
  | succ n ih =>
    show su (fun _ => 0) n + 0 = 0
    rw [ih]
    rfl
theorem su_swap (g : Int → Int → Int) (m : Nat) : ∀ n : Nat, su (fun p => su (fun q => g q p) m) n = su (fun q => su (fun p => g q p) n) m := by
  intro n
  induction n with
  | zero =>
    show (0 : Int) = su (fun q => 0) m
    rw [su_0]
  | succ n ih =>
    show su (fun p => su (fun q => g q p) m) n + su (fun q => g q n) m = su (fun q => su (fun p => g q p) n + g q n) m
    rw [ih, su_add]
theorem su_anti (g : Int → Int → Int) (n : Nat) : su (fun p => su (fun q => g q p - g p q) n) n = 0 := by
  have h : su (fun p => su (fun q => g q p - g p q) n) n = su (fun p => su (fun q => g q p) n - su (fun q => g p q) n) n := su_cg n (fun k _ _ => su_sub ..)
  rw [h, su_sub, su_swap]
  omega
/-! masks -/
def df (s t : Nat) : Nat := s &&& (31 - t)
abbrev sb (t s : Nat) : Prop := t &&& s = t
def bc (s : Nat) : Nat := s % 2 + s / 2 % 2 + s / 4 % 2 + s / 8 % 2 + s / 16 % 2
theorem z_rm : ∀ s : Fin 32, ∀ p : Fin 5, hb (s.val : Int) (p.val : Int) → 2 ^ p.val ≤ s.val ∧ ii (s.val : Int) &&& (i_shl 1 (ii (p.val : Int)) ^^^ (-1)) = ii ((s.val - 2 ^ p.val : Nat) : Int) := by decide +kernel
theorem z_sub : ∀ t s : Fin 32, (ii (t.val : Int) &&& (ii (s.val : Int) ^^^ (-1)) = 0) = (sb t.val s.val) := by decide +kernel
theorem z_df : ∀ s t : Fin 32, ii (s.val : Int) &&& (ii (t.val : Int) ^^^ (-1)) = ii ((df s.val t.val : Nat) : Int) := by decide +kernel
theorem z_bit : ∀ t s : Fin 32, sb t.val s.val → ∀ p : Fin 5, (hb ((df s.val t.val : Nat) : Int) (p.val : Int) ↔ hb (s.val : Int) (p.val : Int) ∧ ¬ hb (t.val : Int) (p.val : Int)) ∧ (hb (t.val : Int) (p.val : Int) → hb (s.val : Int) (p.val : Int)) := by decide +kernel
theorem z_ex : ∀ t s : Fin 32, sb t.val s.val → t ≠ s → ∃ p : Fin 5, hb (s.val : Int) (p.val : Int) ∧ sb t.val (s.val - 2 ^ p.val) := by decide +kernel
theorem z_of : ∀ t s : Fin 32, ∀ p : Fin 5, hb (s.val : Int) (p.val : Int) → sb t.val (s.val - 2 ^ p.val) → sb t.val s.val ∧ t.val < s.val ∧ sb (df s.val t.val) s.val ∧ df s.val t.val ≠ 0 ∧ df s.val (df s.val t.val) = t.val ∧ (t.val ≠ 0 → df s.val t.val < s.val) := by decide +kernel
theorem z_lt : ∀ t s : Fin 32, sb t.val s.val → t.val ≤ s.val ∧ sb (df s.val t.val) s.val ∧ df s.val t.val < 32 ∧ (t.val ≠ 0 → df s.val t.val < s.val ∧ bc (df s.val t.val) < bc s.val) ∧ (t.val ≠ 0 → ∃ p : Fin 5, hb (s.val : Int) (p.val : Int) ∧ sb (df s.val t.val) (s.val - 2 ^ p.val)) := by decide +kernel
theorem z_or : ∀ s : Fin 32, ∀ p : Fin 5, s.val < 2 ^ p.val → ii (s.val : Int) ||| i_shl 1 (ii (p.val : Int)) = ii ((s.val + 2 ^ p.val : Nat) : Int) ∧ (∀ r : Fin 5, hb ((s.val + 2 ^ p.val : Nat) : Int) (r.val : Int) ↔ hb (s.val : Int) (r.val : Int) ∨ r = p) := by decide +kernel
theorem z_hi : ∀ n : Fin 6, ∀ s : Fin 32, s.val < 2 ^ n.val → ∀ p : Fin 5, n.val ≤ p.val → ¬ hb (s.val : Int) (p.val : Int) := by decide +kernel
theorem z_bc : ∀ s : Fin 32, bc s.val ≤ 5 := by decide +kernel
theorem m_ones (m : fk_M) {s : Nat} (h : s < 32) : f_X2_ones (ii s) m = some (ii (bc s)) := by
  have hs : s = 0 ∨ s = 1 ∨ s = 2 ∨ s = 3 ∨ s = 4 ∨ s = 5 ∨ s = 6 ∨ s = 7 ∨ s = 8 ∨ s = 9 ∨ s = 10 ∨ s = 11 ∨ s = 12 ∨ s = 13 ∨ s = 14 ∨ s = 15 ∨ s = 16 ∨ s = 17 ∨ s = 18 ∨ s = 19 ∨ s = 20 ∨ s = 21 ∨ s = 22 ∨ s = 23 ∨ s = 24 ∨ s = 25 ∨ s = 26 ∨ s = 27 ∨ s = 28 ∨ s = 29 ∨ s = 30 ∨ s = 31 := by omega
  rcases hs with rfl | rfl | rfl | rfl | rfl | rfl | rfl | rfl | rfl | rfl | rfl | rfl | rfl | rfl | rfl | rfl | rfl | rfl | rfl | rfl | rfl | rfl | rfl | rfl | rfl | rfl | rfl | rfl | rfl | rfl | rfl | rfl
  all_goals rfl
theorem k_bits (m : fk_M) {s : Nat} (h : s < 32) : f_X1_bits (ii s) m = some (ii (bc s)) := by
  have hs : s = 0 ∨ s = 1 ∨ s = 2 ∨ s = 3 ∨ s = 4 ∨ s = 5 ∨ s = 6 ∨ s = 7 ∨ s = 8 ∨ s = 9 ∨ s = 10 ∨ s = 11 ∨ s = 12 ∨ s = 13 ∨ s = 14 ∨ s = 15 ∨ s = 16 ∨ s = 17 ∨ s = 18 ∨ s = 19 ∨ s = 20 ∨ s = 21 ∨ s = 22 ∨ s = 23 ∨ s = 24 ∨ s = 25 ∨ s = 26 ∨ s = 27 ∨ s = 28 ∨ s = 29 ∨ s = 30 ∨ s = 31 := by omega
  rcases hs with rfl | rfl | rfl | rfl | rfl | rfl | rfl | rfl | rfl | rfl | rfl | rfl | rfl | rfl | rfl | rfl | rfl | rfl | rfl | rfl | rfl | rfl | rfl | rfl | rfl | rfl | rfl | rfl | rfl | rfl | rfl | rfl
  all_goals rfl
