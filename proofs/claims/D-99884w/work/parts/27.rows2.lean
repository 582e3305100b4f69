/-! BASE 8: rows that take the hypothesis "the function answers z" along (by gen_rows2.py) -/
set_option maxRecDepth 100000
theorem bI {α β : Type} {x : Option α} {f : α → Option β} {z : β} (h : x.bind f = some z) : ∃ a : α, x = some a ∧ f a = some z := Option.bind_eq_some_iff.mp h
/-- an answer and a heap -/
def bn2 {α β γ : Type} (x : Option (α × β)) (f : α → β → Option γ) : Option γ := match x with
  | none => none
  | some (a, b) => f a b
theorem bn2_eq {α β γ : Type} {x : Option (α × β)} {f : α → β → Option γ} {z : γ} (h : bn2 x f = some z) : ∃ (a : α) (b : β), x = some (a, b) ∧ f a b = some z := by
  unfold bn2 at h
  split at h
  · cases h
  · rename_i a b
    exact ⟨a, b, rfl, h⟩
/-- cells, slots and a heap -/
def bn3 {γ : Type} (x : Option (Nat × Nat × fk_M)) (f : Nat → Nat → fk_M → Option γ) : Option γ := match x with
  | none => none
  | some (a, b, c) => f a b c
theorem bn3_eq {γ : Type} {x : Option (Nat × Nat × fk_M)} {f : Nat → Nat → fk_M → Option γ} {z : γ} (h : bn3 x f = some z) : ∃ (a b : Nat) (c : fk_M), x = some (a, b, c) ∧ f a b c = some z := by
  unfold bn3 at h
  split at h
  · cases h
  · rename_i a b c
    exact ⟨a, b, c, rfl, h⟩
def bn4 {α γ : Type} (x : Option (α × Nat × Nat × fk_M)) (f : α → Nat → Nat → fk_M → Option γ) : Option γ := match x with
  | none => none
  | some (r, a, b, c) => f r a b c
theorem bn4_eq {α γ : Type} {x : Option (α × Nat × Nat × fk_M)} {f : α → Nat → Nat → fk_M → Option γ} {z : γ} (h : bn4 x f = some z) : ∃ (r : α) (a b : Nat) (c : fk_M), x = some (r, a, b, c) ∧ f r a b c = some z := by
  unfold bn4 at h
  split at h
  · cases h
  · rename_i r a b c
    exact ⟨r, a, b, c, rfl, h⟩
/-- cells and slots only grow -/
def Mo3 (n k : Nat) (x : Option (Nat × Nat × fk_M)) : Prop := ∀ (n' k' : Nat) (m : fk_M), x = some (n', k', m) → n ≤ n' ∧ k ≤ k'
def Mo4 {α : Type} (n k : Nat) (x : Option (α × Nat × Nat × fk_M)) : Prop := ∀ (r : α) (n' k' : Nat) (m : fk_M), x = some (r, n', k', m) → n ≤ n' ∧ k ≤ k'
theorem Mo3.no {n k : Nat} : Mo3 n k none := fun _ _ _ h => by cases h
theorem Mo4.no {α : Type} {n k : Nat} : Mo4 (α := α) n k none := fun _ _ _ _ h => by cases h
theorem Mo3.ok {n k n' k' : Nat} {m : fk_M} (h1 : n ≤ n') (h2 : k ≤ k') : Mo3 n k (some (n', k', m)) := fun _ _ _ h => by cases h; exact ⟨h1, h2⟩
theorem Mo4.ok {α : Type} {n k n' k' : Nat} {m : fk_M} {r : α} (h1 : n ≤ n') (h2 : k ≤ k') : Mo4 n k (some (r, n', k', m)) := fun _ _ _ _ h => by cases h; exact ⟨h1, h2⟩
theorem Mo3.ite {n k : Nat} {c : Prop} [Decidable c] {x y : Option (Nat × Nat × fk_M)} (h1 : Mo3 n k x) (h2 : Mo3 n k y) : Mo3 n k (if c then x else y) := by
  split
  · exact h1
  · exact h2
theorem Mo4.ite {α : Type} {n k : Nat} {c : Prop} [Decidable c] {x y : Option (α × Nat × Nat × fk_M)} (h1 : Mo4 n k x) (h2 : Mo4 n k y) : Mo4 n k (if c then x else y) := by
  split
  · exact h1
  · exact h2
theorem Mo3.bind {β : Type} {n k : Nat} {x : Option β} {f : β → Option (Nat × Nat × fk_M)} (h : ∀ b, Mo3 n k (f b)) : Mo3 n k (x.bind f) := fun n' k' m e => by
  obtain ⟨a, -, h2⟩ := bI e
  exact h a n' k' m h2
theorem Mo4.bind {α β : Type} {n k : Nat} {x : Option β} {f : β → Option (α × Nat × Nat × fk_M)} (h : ∀ b, Mo4 n k (f b)) : Mo4 n k (x.bind f) := fun r n' k' m e => by
  obtain ⟨a, -, h2⟩ := bI e
  exact h a r n' k' m h2
theorem Mo3.bn2 {β γ : Type} {n k : Nat} {x : Option (β × γ)} {f : β → γ → Option (Nat × Nat × fk_M)} (h : ∀ b c, Mo3 n k (f b c)) : Mo3 n k (bn2 x f) := fun n' k' m e => by
  obtain ⟨a, b, -, h2⟩ := bn2_eq e
  exact h a b n' k' m h2
theorem Mo4.bn2 {α β γ : Type} {n k : Nat} {x : Option (β × γ)} {f : β → γ → Option (α × Nat × Nat × fk_M)} (h : ∀ b c, Mo4 n k (f b c)) : Mo4 n k (bn2 x f) := fun r n' k' m e => by
  obtain ⟨a, b, -, h2⟩ := bn2_eq e
  exact h a b r n' k' m h2
theorem Mo3.bn3 {n k : Nat} {x : Option (Nat × Nat × fk_M)} {f : Nat → Nat → fk_M → Option (Nat × Nat × fk_M)} (hx : Mo3 n k x) (h : ∀ a b c, Mo3 a b (f a b c)) : Mo3 n k (bn3 x f) := fun n' k' m e => by
  obtain ⟨a, b, c, h1, h2⟩ := bn3_eq e
  have h3 := hx a b c h1
  have h4 := h a b c n' k' m h2
  exact ⟨Nat.le_trans h3.1 h4.1, Nat.le_trans h3.2 h4.2⟩
theorem Mo4.bn3 {α : Type} {n k : Nat} {x : Option (Nat × Nat × fk_M)} {f : Nat → Nat → fk_M → Option (α × Nat × Nat × fk_M)} (hx : Mo3 n k x) (h : ∀ a b c, Mo4 a b (f a b c)) : Mo4 n k (bn3 x f) := fun r n' k' m e => by
  obtain ⟨a, b, c, h1, h2⟩ := bn3_eq e
  have h3 := hx a b c h1
  have h4 := h a b c r n' k' m h2
  exact ⟨Nat.le_trans h3.1 h4.1, Nat.le_trans h3.2 h4.2⟩
theorem Mo3.bn4 {β : Type} {n k : Nat} {x : Option (β × Nat × Nat × fk_M)} {f : β → Nat → Nat → fk_M → Option (Nat × Nat × fk_M)} (hx : Mo4 n k x) (h : ∀ r a b c, Mo3 a b (f r a b c)) : Mo3 n k (bn4 x f) := fun n' k' m e => by
  obtain ⟨r, a, b, c, h1, h2⟩ := bn4_eq e
  have h3 := hx r a b c h1
  have h4 := h r a b c n' k' m h2
  exact ⟨Nat.le_trans h3.1 h4.1, Nat.le_trans h3.2 h4.2⟩
theorem Mo4.bn4 {α β : Type} {n k : Nat} {x : Option (β × Nat × Nat × fk_M)} {f : β → Nat → Nat → fk_M → Option (α × Nat × Nat × fk_M)} (hx : Mo4 n k x) (h : ∀ r a b c, Mo4 a b (f r a b c)) : Mo4 n k (bn4 x f) := fun r9 n' k' m e => by
  obtain ⟨r, a, b, c, h1, h2⟩ := bn4_eq e
  have h3 := hx r a b c h1
  have h4 := h r a b c r9 n' k' m h2
  exact ⟨Nat.le_trans h3.1 h4.1, Nat.le_trans h3.2 h4.2⟩
theorem Mo3.le {n k n1 k1 : Nat} {x : Option (Nat × Nat × fk_M)} (h : Mo3 n1 k1 x) (h1 : n ≤ n1) (h2 : k ≤ k1) : Mo3 n k x := fun a b c e => ⟨Nat.le_trans h1 (h a b c e).1, Nat.le_trans h2 (h a b c e).2⟩
theorem Mo4.le {α : Type} {n k n1 k1 : Nat} {x : Option (α × Nat × Nat × fk_M)} (h : Mo4 n1 k1 x) (h1 : n ≤ n1) (h2 : k ≤ k1) : Mo4 n k x := fun r a b c e => ⟨Nat.le_trans h1 (h r a b c e).1, Nat.le_trans h2 (h r a b c e).2⟩
theorem Mo3.use {n k nF kF : Nat} {mF : fk_M} {x : Option (Nat × Nat × fk_M)} (hf : x = some (nF, kF, mF)) (h : Mo3 n k x) : n ≤ nF ∧ k ≤ kF := h nF kF mF hf
theorem Mo4.use {α : Type} {n k nF kF : Nat} {mF : fk_M} {r : α} {x : Option (α × Nat × Nat × fk_M)} (hf : x = some (r, nF, kF, mF)) (h : Mo4 n k x) : n ≤ nF ∧ k ≤ kF := h r nF kF mF hf
def fk_fuel : Nat := 4000
section FKH
variable {E : fk_E} {l0 : Launch} {G0 : fk_G} {b00 : Nat} {own mn : String} {cc : ByteArray} {nL fr lo rc rs n cs sl pc : Nat} {mp : fk_M} {lv : List (Nat × fk_T)} {st : List fk_T}
variable {ρ : Type} {z : ρ}
theorem fk_if_eq' (X : fk_X E l0 G0 b00 own mn cc nL fr lo rc rs) {x : Int32} {off : Int} (tgt : Nat) (d : decode cc pc = .ok (.ifCond .eq off, 3)) (ht : (pc : Int) + off = (tgt : Int)) {A B : Option ρ} (hf : (if x = 0 then A else B) = some z) (k1 : A = some z → fk_W E nL n mp cs sl tgt lv st) (k2 : B = some z → fk_W E nL n mp cs sl (pc + 3) lv st) : fk_W E nL n mp cs sl pc lv (tI x :: st) := fk_if_eq X tgt d ht (fun h => k1 (by rw [if_pos h] at hf; exact hf)) (fun h => k2 (by rw [if_neg h] at hf; exact hf))
theorem fk_icmp_eq' (X : fk_X E l0 G0 b00 own mn cc nL fr lo rc rs) {x y : Int32} {off : Int} (tgt : Nat) (d : decode cc pc = .ok (.if_icmp .eq off, 3)) (ht : (pc : Int) + off = (tgt : Int)) {A B : Option ρ} (hf : (if x = y then A else B) = some z) (k1 : A = some z → fk_W E nL n mp cs sl tgt lv st) (k2 : B = some z → fk_W E nL n mp cs sl (pc + 3) lv st) : fk_W E nL n mp cs sl pc lv (tI y :: tI x :: st) := fk_icmp_eq X tgt d ht (fun h => k1 (by rw [if_pos h] at hf; exact hf)) (fun h => k2 (by rw [if_neg h] at hf; exact hf))
theorem fk_if_ne' (X : fk_X E l0 G0 b00 own mn cc nL fr lo rc rs) {x : Int32} {off : Int} (tgt : Nat) (d : decode cc pc = .ok (.ifCond .ne off, 3)) (ht : (pc : Int) + off = (tgt : Int)) {A B : Option ρ} (hf : (if x = 0 then A else B) = some z) (k1 : B = some z → fk_W E nL n mp cs sl tgt lv st) (k2 : A = some z → fk_W E nL n mp cs sl (pc + 3) lv st) : fk_W E nL n mp cs sl pc lv (tI x :: st) := fk_if_ne X tgt d ht (fun h => k1 (by rw [if_neg h] at hf; exact hf)) (fun h => k2 (by rw [if_pos h] at hf; exact hf))
theorem fk_icmp_ne' (X : fk_X E l0 G0 b00 own mn cc nL fr lo rc rs) {x y : Int32} {off : Int} (tgt : Nat) (d : decode cc pc = .ok (.if_icmp .ne off, 3)) (ht : (pc : Int) + off = (tgt : Int)) {A B : Option ρ} (hf : (if x = y then A else B) = some z) (k1 : B = some z → fk_W E nL n mp cs sl tgt lv st) (k2 : A = some z → fk_W E nL n mp cs sl (pc + 3) lv st) : fk_W E nL n mp cs sl pc lv (tI y :: tI x :: st) := fk_icmp_ne X tgt d ht (fun h => k1 (by rw [if_neg h] at hf; exact hf)) (fun h => k2 (by rw [if_pos h] at hf; exact hf))
theorem fk_if_lt' (X : fk_X E l0 G0 b00 own mn cc nL fr lo rc rs) {x : Int32} {off : Int} (tgt : Nat) (d : decode cc pc = .ok (.ifCond .lt off, 3)) (ht : (pc : Int) + off = (tgt : Int)) {A B : Option ρ} (hf : (if x < 0 then A else B) = some z) (k1 : A = some z → fk_W E nL n mp cs sl tgt lv st) (k2 : B = some z → fk_W E nL n mp cs sl (pc + 3) lv st) : fk_W E nL n mp cs sl pc lv (tI x :: st) := fk_if_lt X tgt d ht (fun h => k1 (by rw [if_pos h] at hf; exact hf)) (fun h => k2 (by rw [if_neg h] at hf; exact hf))
theorem fk_icmp_lt' (X : fk_X E l0 G0 b00 own mn cc nL fr lo rc rs) {x y : Int32} {off : Int} (tgt : Nat) (d : decode cc pc = .ok (.if_icmp .lt off, 3)) (ht : (pc : Int) + off = (tgt : Int)) {A B : Option ρ} (hf : (if x < y then A else B) = some z) (k1 : A = some z → fk_W E nL n mp cs sl tgt lv st) (k2 : B = some z → fk_W E nL n mp cs sl (pc + 3) lv st) : fk_W E nL n mp cs sl pc lv (tI y :: tI x :: st) := fk_icmp_lt X tgt d ht (fun h => k1 (by rw [if_pos h] at hf; exact hf)) (fun h => k2 (by rw [if_neg h] at hf; exact hf))
theorem fk_if_ge' (X : fk_X E l0 G0 b00 own mn cc nL fr lo rc rs) {x : Int32} {off : Int} (tgt : Nat) (d : decode cc pc = .ok (.ifCond .ge off, 3)) (ht : (pc : Int) + off = (tgt : Int)) {A B : Option ρ} (hf : (if 0 ≤ x then A else B) = some z) (k1 : A = some z → fk_W E nL n mp cs sl tgt lv st) (k2 : B = some z → fk_W E nL n mp cs sl (pc + 3) lv st) : fk_W E nL n mp cs sl pc lv (tI x :: st) := fk_if_ge X tgt d ht (fun h => k1 (by rw [if_pos h] at hf; exact hf)) (fun h => k2 (by rw [if_neg h] at hf; exact hf))
theorem fk_icmp_ge' (X : fk_X E l0 G0 b00 own mn cc nL fr lo rc rs) {x y : Int32} {off : Int} (tgt : Nat) (d : decode cc pc = .ok (.if_icmp .ge off, 3)) (ht : (pc : Int) + off = (tgt : Int)) {A B : Option ρ} (hf : (if y ≤ x then A else B) = some z) (k1 : A = some z → fk_W E nL n mp cs sl tgt lv st) (k2 : B = some z → fk_W E nL n mp cs sl (pc + 3) lv st) : fk_W E nL n mp cs sl pc lv (tI y :: tI x :: st) := fk_icmp_ge X tgt d ht (fun h => k1 (by rw [if_pos h] at hf; exact hf)) (fun h => k2 (by rw [if_neg h] at hf; exact hf))
theorem fk_if_gt' (X : fk_X E l0 G0 b00 own mn cc nL fr lo rc rs) {x : Int32} {off : Int} (tgt : Nat) (d : decode cc pc = .ok (.ifCond .gt off, 3)) (ht : (pc : Int) + off = (tgt : Int)) {A B : Option ρ} (hf : (if 0 < x then A else B) = some z) (k1 : A = some z → fk_W E nL n mp cs sl tgt lv st) (k2 : B = some z → fk_W E nL n mp cs sl (pc + 3) lv st) : fk_W E nL n mp cs sl pc lv (tI x :: st) := fk_if_gt X tgt d ht (fun h => k1 (by rw [if_pos h] at hf; exact hf)) (fun h => k2 (by rw [if_neg h] at hf; exact hf))
theorem fk_icmp_gt' (X : fk_X E l0 G0 b00 own mn cc nL fr lo rc rs) {x y : Int32} {off : Int} (tgt : Nat) (d : decode cc pc = .ok (.if_icmp .gt off, 3)) (ht : (pc : Int) + off = (tgt : Int)) {A B : Option ρ} (hf : (if y < x then A else B) = some z) (k1 : A = some z → fk_W E nL n mp cs sl tgt lv st) (k2 : B = some z → fk_W E nL n mp cs sl (pc + 3) lv st) : fk_W E nL n mp cs sl pc lv (tI y :: tI x :: st) := fk_icmp_gt X tgt d ht (fun h => k1 (by rw [if_pos h] at hf; exact hf)) (fun h => k2 (by rw [if_neg h] at hf; exact hf))
theorem fk_if_le' (X : fk_X E l0 G0 b00 own mn cc nL fr lo rc rs) {x : Int32} {off : Int} (tgt : Nat) (d : decode cc pc = .ok (.ifCond .le off, 3)) (ht : (pc : Int) + off = (tgt : Int)) {A B : Option ρ} (hf : (if x ≤ 0 then A else B) = some z) (k1 : A = some z → fk_W E nL n mp cs sl tgt lv st) (k2 : B = some z → fk_W E nL n mp cs sl (pc + 3) lv st) : fk_W E nL n mp cs sl pc lv (tI x :: st) := fk_if_le X tgt d ht (fun h => k1 (by rw [if_pos h] at hf; exact hf)) (fun h => k2 (by rw [if_neg h] at hf; exact hf))
theorem fk_icmp_le' (X : fk_X E l0 G0 b00 own mn cc nL fr lo rc rs) {x y : Int32} {off : Int} (tgt : Nat) (d : decode cc pc = .ok (.if_icmp .le off, 3)) (ht : (pc : Int) + off = (tgt : Int)) {A B : Option ρ} (hf : (if x ≤ y then A else B) = some z) (k1 : A = some z → fk_W E nL n mp cs sl tgt lv st) (k2 : B = some z → fk_W E nL n mp cs sl (pc + 3) lv st) : fk_W E nL n mp cs sl pc lv (tI y :: tI x :: st) := fk_icmp_le X tgt d ht (fun h => k1 (by rw [if_pos h] at hf; exact hf)) (fun h => k2 (by rw [if_neg h] at hf; exact hf))
theorem fk_ifnull' (X : fk_X E l0 G0 b00 own mn cc nL fr lo rc rs) {q : Option Nat} {off : Int} (tgt : Nat) (d : decode cc pc = .ok (.ifnull off, 3)) (ht : (pc : Int) + off = (tgt : Int)) {A B : Option ρ} (hf : (if q = none then A else B) = some z) (k1 : A = some z → fk_W E nL n mp cs sl tgt lv st) (k2 : B = some z → fk_W E nL n mp cs sl (pc + 3) lv st) : fk_W E nL n mp cs sl pc lv (tR q :: st) := fk_ifnull X tgt d ht (fun h => k1 (by rw [if_pos h] at hf; exact hf)) (fun h => k2 (by rw [if_neg h] at hf; exact hf))
theorem fk_ifnonnull' (X : fk_X E l0 G0 b00 own mn cc nL fr lo rc rs) {q : Option Nat} {off : Int} (tgt : Nat) (d : decode cc pc = .ok (.ifnonnull off, 3)) (ht : (pc : Int) + off = (tgt : Int)) {A B : Option ρ} (hf : (if q = none then A else B) = some z) (k1 : B = some z → fk_W E nL n mp cs sl tgt lv st) (k2 : A = some z → fk_W E nL n mp cs sl (pc + 3) lv st) : fk_W E nL n mp cs sl pc lv (tR q :: st) := fk_ifnonnull X tgt d ht (fun h => k1 (by rw [if_neg h] at hf; exact hf)) (fun h => k2 (by rw [if_pos h] at hf; exact hf))
theorem fk_acmp_eq' (X : fk_X E l0 G0 b00 own mn cc nL fr lo rc rs) {q1 q2 : Option Nat} {off : Int} (tgt : Nat) (d : decode cc pc = .ok (.if_acmp .eq off, 3)) (ht : (pc : Int) + off = (tgt : Int)) {A B : Option ρ} (hf : (if q1 = q2 then A else B) = some z) (k1 : A = some z → fk_W E nL n mp cs sl tgt lv st) (k2 : B = some z → fk_W E nL n mp cs sl (pc + 3) lv st) : fk_W E nL n mp cs sl pc lv (tR q2 :: tR q1 :: st) := fk_acmp_eq X tgt d ht (fun h => k1 (by rw [if_pos h] at hf; exact hf)) (fun h => k2 (by rw [if_neg h] at hf; exact hf))
theorem fk_acmp_ne' (X : fk_X E l0 G0 b00 own mn cc nL fr lo rc rs) {q1 q2 : Option Nat} {off : Int} (tgt : Nat) (d : decode cc pc = .ok (.if_acmp .ne off, 3)) (ht : (pc : Int) + off = (tgt : Int)) {A B : Option ρ} (hf : (if q1 = q2 then A else B) = some z) (k1 : B = some z → fk_W E nL n mp cs sl tgt lv st) (k2 : A = some z → fk_W E nL n mp cs sl (pc + 3) lv st) : fk_W E nL n mp cs sl pc lv (tR q2 :: tR q1 :: st) := fk_acmp_ne X tgt d ht (fun h => k1 (by rw [if_neg h] at hf; exact hf)) (fun h => k2 (by rw [if_pos h] at hf; exact hf))
theorem fk_idiv' (X : fk_X E l0 G0 b00 own mn cc nL fr lo rc rs) {x y : Int32} (d : decode cc pc = .ok (.idiv, 1)) {A : Option ρ} (hf : (if y = 0 then none else A) = some z) (kk : A = some z → fk_W E nL n mp cs sl (pc + 1) lv (tI (x / y) :: st)) : fk_W E nL n mp cs sl pc lv (tI y :: tI x :: st) := by
  by_cases h : y = 0
  · rw [if_pos h] at hf; cases hf
  · rw [if_neg h] at hf; exact fk_idiv X d h (kk hf)
theorem fk_irem' (X : fk_X E l0 G0 b00 own mn cc nL fr lo rc rs) {x y : Int32} (d : decode cc pc = .ok (.irem, 1)) {A : Option ρ} (hf : (if y = 0 then none else A) = some z) (kk : A = some z → fk_W E nL n mp cs sl (pc + 1) lv (tI (i_rem x y) :: st)) : fk_W E nL n mp cs sl pc lv (tI y :: tI x :: st) := by
  by_cases h : y = 0
  · rw [if_pos h] at hf; cases hf
  · rw [if_neg h] at hf; exact fk_irem X d h (kk hf)
theorem fk_ldiv' (X : fk_X E l0 G0 b00 own mn cc nL fr lo rc rs) {x y : Int64} (d : decode cc pc = .ok (.ldiv, 1)) {A : Option ρ} (hf : (if y = 0 then none else A) = some z) (kk : A = some z → fk_W E nL n mp cs sl (pc + 1) lv (tL (x / y) :: st)) : fk_W E nL n mp cs sl pc lv (tL y :: tL x :: st) := by
  by_cases h : y = 0
  · rw [if_pos h] at hf; cases hf
  · rw [if_neg h] at hf; exact fk_ldiv X d h (kk hf)
theorem fk_lrem' (X : fk_X E l0 G0 b00 own mn cc nL fr lo rc rs) {x y : Int64} (d : decode cc pc = .ok (.lrem, 1)) {A : Option ρ} (hf : (if y = 0 then none else A) = some z) (kk : A = some z → fk_W E nL n mp cs sl (pc + 1) lv (tL (l_rem x y) :: st)) : fk_W E nL n mp cs sl pc lv (tL y :: tL x :: st) := by
  by_cases h : y = 0
  · rw [if_pos h] at hf; cases hf
  · rw [if_neg h] at hf; exact fk_lrem X d h (kk hf)
theorem fk_getI' (X : fk_X E l0 G0 b00 own mn cc nL fr lo rc rs) {q : Option Nat} {ci k index : Nat} {O nm ds : String} {ty : FieldType} {fin : Bool} (F : fk_Fd ci k O nm ds ty fin) (lk : Cond.fieldLink own index O nm ds ∈ lw_all) (d : decode cc pc = .ok (.getfield index, 3)) {f : Int32 → Option ρ} (hf : (gI mp q ci k).bind f = some z) (kk : ∀ x : Int32, f x = some z → fk_W E nL n mp cs sl (pc + 3) lv (tI x :: st)) : fk_W E nL n mp cs sl pc lv (tR q :: st) := by
  obtain ⟨x, h1, h2⟩ := bI hf
  exact fk_getI X F lk d h1 (kk x h2)
theorem fk_getL' (X : fk_X E l0 G0 b00 own mn cc nL fr lo rc rs) {q : Option Nat} {ci k index : Nat} {O nm ds : String} {ty : FieldType} {fin : Bool} (F : fk_Fd ci k O nm ds ty fin) (lk : Cond.fieldLink own index O nm ds ∈ lw_all) (d : decode cc pc = .ok (.getfield index, 3)) {f : Int64 → Option ρ} (hf : (gL mp q ci k).bind f = some z) (kk : ∀ x : Int64, f x = some z → fk_W E nL n mp cs sl (pc + 3) lv (tL x :: st)) : fk_W E nL n mp cs sl pc lv (tR q :: st) := by
  obtain ⟨x, h1, h2⟩ := bI hf
  exact fk_getL X F lk d h1 (kk x h2)
theorem fk_getR' (X : fk_X E l0 G0 b00 own mn cc nL fr lo rc rs) {q : Option Nat} {ci k index : Nat} {O nm ds : String} {ty : FieldType} {fin : Bool} (F : fk_Fd ci k O nm ds ty fin) (lk : Cond.fieldLink own index O nm ds ∈ lw_all) (d : decode cc pc = .ok (.getfield index, 3)) {f : Option Nat → Option ρ} (hf : (gR mp q ci k).bind f = some z) (kk : ∀ x : Option Nat, f x = some z → fk_W E nL n mp cs sl (pc + 3) lv (tR x :: st)) : fk_W E nL n mp cs sl pc lv (tR q :: st) := by
  obtain ⟨x, h1, h2⟩ := bI hf
  exact fk_getR X F lk d h1 (kk x h2)
theorem fk_getIs' (X : fk_X E l0 G0 b00 own mn cc nL fr lo rc rs) {q : Option Nat} {ci k index : Nat} {O nm ds ref : String} {ty : FieldType} {fin : Bool} (F : fk_Fd ci k O nm ds ty fin) (hs : Cond.sameField ref O nm ds ∈ lw_all) (lk : Cond.fieldLink own index ref nm ds ∈ lw_all) (d : decode cc pc = .ok (.getfield index, 3)) {f : Int32 → Option ρ} (hf : (gI mp q ci k).bind f = some z) (kk : ∀ x : Int32, f x = some z → fk_W E nL n mp cs sl (pc + 3) lv (tI x :: st)) : fk_W E nL n mp cs sl pc lv (tR q :: st) := by
  obtain ⟨x, h1, h2⟩ := bI hf
  exact fk_getIs X F hs lk d h1 (kk x h2)
theorem fk_getN' (X : fk_X E l0 G0 b00 own mn cc nL fr lo rc rs) {q : Option Nat} {ci k index : Nat} {O nm ds host : String} {ty : FieldType} {fin : Bool} (F : fk_Fd ci k O nm ds ty fin) (lk : (own, index, O, nm, ds, host) ∈ fk_fln) (d : decode cc pc = .ok (.getfield index, 3)) {f : Int32 → Option ρ} (hf : (gI mp q ci k).bind f = some z) (kk : ∀ x : Int32, f x = some z → fk_W E nL n mp cs sl (pc + 3) lv (tI x :: st)) : fk_W E nL n mp cs sl pc lv (tR q :: st) := by
  obtain ⟨x, h1, h2⟩ := bI hf
  exact fk_getN X F lk d h1 (kk x h2)
theorem fk_putI' (X : fk_X E l0 G0 b00 own mn cc nL fr lo rc rs) {q : Option Nat} {ci k index : Nat} {O nm ds : String} {ty : FieldType} {x : Int32} (F : fk_Fd ci k O nm ds ty false) (lk : Cond.fieldLink own index O nm ds ∈ lw_all) (d : decode cc pc = .ok (.putfield index, 3)) (hft : fk_fit ty (tI x)) {f : fk_M → Option ρ} (hf : (pV mp q ci k (tI x)).bind f = some z) (kk : ∀ m : fk_M, f m = some z → fk_W E nL n m cs sl (pc + 3) lv st) : fk_W E nL n mp cs sl pc lv (tI x :: tR q :: st) := by
  obtain ⟨m, h1, h2⟩ := bI hf
  exact fk_putV X F (Or.inl rfl) lk d hft h1 (kk m h2)
theorem fk_putL' (X : fk_X E l0 G0 b00 own mn cc nL fr lo rc rs) {q : Option Nat} {ci k index : Nat} {O nm ds : String} {ty : FieldType} {x : Int64} (F : fk_Fd ci k O nm ds ty false) (lk : Cond.fieldLink own index O nm ds ∈ lw_all) (d : decode cc pc = .ok (.putfield index, 3)) (hft : fk_fit ty (tL x)) {f : fk_M → Option ρ} (hf : (pV mp q ci k (tL x)).bind f = some z) (kk : ∀ m : fk_M, f m = some z → fk_W E nL n m cs sl (pc + 3) lv st) : fk_W E nL n mp cs sl pc lv (tL x :: tR q :: st) := by
  obtain ⟨m, h1, h2⟩ := bI hf
  exact fk_putV X F (Or.inl rfl) lk d hft h1 (kk m h2)
theorem fk_putR' (X : fk_X E l0 G0 b00 own mn cc nL fr lo rc rs) {q : Option Nat} {ci k index : Nat} {O nm ds : String} {ty : FieldType} {x : Option Nat} (F : fk_Fd ci k O nm ds ty false) (lk : Cond.fieldLink own index O nm ds ∈ lw_all) (d : decode cc pc = .ok (.putfield index, 3)) (hft : fk_fit ty (tR x)) {f : fk_M → Option ρ} (hf : (pV mp q ci k (tR x)).bind f = some z) (kk : ∀ m : fk_M, f m = some z → fk_W E nL n m cs sl (pc + 3) lv st) : fk_W E nL n mp cs sl pc lv (tR x :: tR q :: st) := by
  obtain ⟨m, h1, h2⟩ := bI hf
  exact fk_putV X F (Or.inl rfl) lk d hft h1 (kk m h2)
theorem fk_putZ' (X : fk_X E l0 G0 b00 own mn cc nL fr lo rc rs) {q : Option Nat} {ci k index : Nat} {O nm ds : String} {x : Int32} (F : fk_Fd ci k O nm ds .boolean false) (lk : Cond.fieldLink own index O nm ds ∈ lw_all) (d : decode cc pc = .ok (.putfield index, 3)) {f : fk_M → Option ρ} (hf : (pZ mp q ci k x).bind f = some z) (kk : ∀ m : fk_M, f m = some z → fk_W E nL n m cs sl (pc + 3) lv st) : fk_W E nL n mp cs sl pc lv (tI x :: tR q :: st) := by
  obtain ⟨m, h1, h2⟩ := bI hf
  obtain ⟨h3, h4⟩ := pZ_eq h1
  exact fk_putV X F (Or.inl rfl) lk d (fit_Z h3) h4 (kk m h2)
theorem fk_putB' (X : fk_X E l0 G0 b00 own mn cc nL fr lo rc rs) {q : Option Nat} {ci k index : Nat} {O nm ds : String} {x : Int32} (F : fk_Fd ci k O nm ds .byte false) (lk : Cond.fieldLink own index O nm ds ∈ lw_all) (d : decode cc pc = .ok (.putfield index, 3)) {f : fk_M → Option ρ} (hf : (pB mp q ci k x).bind f = some z) (kk : ∀ m : fk_M, f m = some z → fk_W E nL n m cs sl (pc + 3) lv st) : fk_W E nL n mp cs sl pc lv (tI x :: tR q :: st) := by
  obtain ⟨m, h1, h2⟩ := bI hf
  obtain ⟨h3, h4⟩ := pB_eq h1
  exact fk_putV X F (Or.inl rfl) lk d (fit_B h3) h4 (kk m h2)
theorem fk_putIs' (X : fk_X E l0 G0 b00 own mn cc nL fr lo rc rs) {q : Option Nat} {ci k index : Nat} {O nm ds ref : String} {ty : FieldType} {x : Int32} (F : fk_Fd ci k O nm ds ty false) (hs : Cond.sameField ref O nm ds ∈ lw_all) (lk : Cond.fieldLink own index ref nm ds ∈ lw_all) (d : decode cc pc = .ok (.putfield index, 3)) (hft : fk_fit ty (tI x)) {f : fk_M → Option ρ} (hf : (pV mp q ci k (tI x)).bind f = some z) (kk : ∀ m : fk_M, f m = some z → fk_W E nL n m cs sl (pc + 3) lv st) : fk_W E nL n mp cs sl pc lv (tI x :: tR q :: st) := by
  obtain ⟨m, h1, h2⟩ := bI hf
  exact fk_putV X F (Or.inr hs) lk d hft h1 (kk m h2)
theorem fk_putFI' (X : fk_X E l0 G0 b00 own "<init>" cc nL fr lo rc rs) {q : Option Nat} {ci k index : Nat} {nm ds : String} {ty : FieldType} {x : Int32} (F : fk_Fd ci k own nm ds ty true) (lk : Cond.fieldLink own index own nm ds ∈ lw_all) (d : decode cc pc = .ok (.putfield index, 3)) (hft : fk_fit ty (tI x)) {f : fk_M → Option ρ} (hf : (pV mp q ci k (tI x)).bind f = some z) (kk : ∀ m : fk_M, f m = some z → fk_W E nL n m cs sl (pc + 3) lv st) : fk_W E nL n mp cs sl pc lv (tI x :: tR q :: st) := by
  obtain ⟨m, h1, h2⟩ := bI hf
  exact fk_putF X F lk d hft h1 (kk m h2)
theorem fk_putFR' (X : fk_X E l0 G0 b00 own "<init>" cc nL fr lo rc rs) {q : Option Nat} {ci k index : Nat} {nm ds : String} {ty : FieldType} {x : Option Nat} (F : fk_Fd ci k own nm ds ty true) (lk : Cond.fieldLink own index own nm ds ∈ lw_all) (d : decode cc pc = .ok (.putfield index, 3)) (hft : fk_fit ty (tR x)) {f : fk_M → Option ρ} (hf : (pV mp q ci k (tR x)).bind f = some z) (kk : ∀ m : fk_M, f m = some z → fk_W E nL n m cs sl (pc + 3) lv st) : fk_W E nL n mp cs sl pc lv (tR x :: tR q :: st) := by
  obtain ⟨m, h1, h2⟩ := bI hf
  exact fk_putF X F lk d hft h1 (kk m h2)
theorem fk_putFB' (X : fk_X E l0 G0 b00 own "<init>" cc nL fr lo rc rs) {q : Option Nat} {ci k index : Nat} {nm ds : String} {x : Int32} (F : fk_Fd ci k own nm ds .byte true) (lk : Cond.fieldLink own index own nm ds ∈ lw_all) (d : decode cc pc = .ok (.putfield index, 3)) {f : fk_M → Option ρ} (hf : (pB mp q ci k x).bind f = some z) (kk : ∀ m : fk_M, f m = some z → fk_W E nL n m cs sl (pc + 3) lv st) : fk_W E nL n mp cs sl pc lv (tI x :: tR q :: st) := by
  obtain ⟨m, h1, h2⟩ := bI hf
  obtain ⟨h3, h4⟩ := pB_eq h1
  exact fk_putF X F lk d (fit_B h3) h4 (kk m h2)
theorem fk_iaload' (X : fk_X E l0 G0 b00 own mn cc nL fr lo rc rs) {q : Option Nat} {i : Int32} (d : decode cc pc = .ok (.iaload, 1)) {f : Int32 → Option ρ} (hf : (aI mp q 0 i).bind f = some z) (kk : ∀ x : Int32, f x = some z → fk_W E nL n mp cs sl (pc + 1) lv (tI x :: st)) : fk_W E nL n mp cs sl pc lv (tI i :: tR q :: st) := by
  obtain ⟨x, h1, h2⟩ := bI hf
  exact fk_iaload X d h1 (kk x h2)
theorem fk_baload' (X : fk_X E l0 G0 b00 own mn cc nL fr lo rc rs) {q : Option Nat} {i : Int32} (d : decode cc pc = .ok (.baload, 1)) {f : Int32 → Option ρ} (hf : (aI mp q 1 i).bind f = some z) (kk : ∀ x : Int32, f x = some z → fk_W E nL n mp cs sl (pc + 1) lv (tI x :: st)) : fk_W E nL n mp cs sl pc lv (tI i :: tR q :: st) := by
  obtain ⟨x, h1, h2⟩ := bI hf
  exact fk_baload X d h1 (kk x h2)
theorem fk_saload' (X : fk_X E l0 G0 b00 own mn cc nL fr lo rc rs) {q : Option Nat} {i : Int32} (d : decode cc pc = .ok (.saload, 1)) {f : Int32 → Option ρ} (hf : (aI mp q 2 i).bind f = some z) (kk : ∀ x : Int32, f x = some z → fk_W E nL n mp cs sl (pc + 1) lv (tI x :: st)) : fk_W E nL n mp cs sl pc lv (tI i :: tR q :: st) := by
  obtain ⟨x, h1, h2⟩ := bI hf
  exact fk_saload X d h1 (kk x h2)
theorem fk_laload' (X : fk_X E l0 G0 b00 own mn cc nL fr lo rc rs) {q : Option Nat} {i : Int32} (d : decode cc pc = .ok (.laload, 1)) {f : Int64 → Option ρ} (hf : (aL mp q i).bind f = some z) (kk : ∀ x : Int64, f x = some z → fk_W E nL n mp cs sl (pc + 1) lv (tL x :: st)) : fk_W E nL n mp cs sl pc lv (tI i :: tR q :: st) := by
  obtain ⟨x, h1, h2⟩ := bI hf
  exact fk_laload X d h1 (kk x h2)
theorem fk_aaload' (X : fk_X E l0 G0 b00 own mn cc nL fr lo rc rs) {q : Option Nat} {i : Int32} (d : decode cc pc = .ok (.aaload, 1)) {f : Option Nat → Option ρ} (hf : (aR mp q i).bind f = some z) (kk : ∀ x : Option Nat, f x = some z → fk_W E nL n mp cs sl (pc + 1) lv (tR x :: st)) : fk_W E nL n mp cs sl pc lv (tI i :: tR q :: st) := by
  obtain ⟨x, h1, h2⟩ := bI hf
  exact fk_aaload X d h1 (kk x h2)
theorem fk_iastore' (X : fk_X E l0 G0 b00 own mn cc nL fr lo rc rs) {q : Option Nat} {i : Int32} {x : Int32} (d : decode cc pc = .ok (.iastore, 1)) {f : fk_M → Option ρ} (hf : (sI mp q 0 i x).bind f = some z) (kk : ∀ m : fk_M, f m = some z → fk_W E nL n m cs sl (pc + 1) lv st) : fk_W E nL n mp cs sl pc lv (tI x :: tI i :: tR q :: st) := by
  obtain ⟨m, h1, h2⟩ := bI hf
  exact fk_iastore X d h1 (kk m h2)
theorem fk_bastore' (X : fk_X E l0 G0 b00 own mn cc nL fr lo rc rs) {q : Option Nat} {i : Int32} {x : Int32} (d : decode cc pc = .ok (.bastore, 1)) {f : fk_M → Option ρ} (hf : (sI mp q 1 i x).bind f = some z) (kk : ∀ m : fk_M, f m = some z → fk_W E nL n m cs sl (pc + 1) lv st) : fk_W E nL n mp cs sl pc lv (tI x :: tI i :: tR q :: st) := by
  obtain ⟨m, h1, h2⟩ := bI hf
  exact fk_bastore X d h1 (kk m h2)
theorem fk_sastore' (X : fk_X E l0 G0 b00 own mn cc nL fr lo rc rs) {q : Option Nat} {i : Int32} {x : Int32} (d : decode cc pc = .ok (.sastore, 1)) {f : fk_M → Option ρ} (hf : (sI mp q 2 i x).bind f = some z) (kk : ∀ m : fk_M, f m = some z → fk_W E nL n m cs sl (pc + 1) lv st) : fk_W E nL n mp cs sl pc lv (tI x :: tI i :: tR q :: st) := by
  obtain ⟨m, h1, h2⟩ := bI hf
  exact fk_sastore X d h1 (kk m h2)
theorem fk_lastore' (X : fk_X E l0 G0 b00 own mn cc nL fr lo rc rs) {q : Option Nat} {i : Int32} {x : Int64} (d : decode cc pc = .ok (.lastore, 1)) {f : fk_M → Option ρ} (hf : (sL mp q i x).bind f = some z) (kk : ∀ m : fk_M, f m = some z → fk_W E nL n m cs sl (pc + 1) lv st) : fk_W E nL n mp cs sl pc lv (tL x :: tI i :: tR q :: st) := by
  obtain ⟨m, h1, h2⟩ := bI hf
  exact fk_lastore X d h1 (kk m h2)
theorem fk_aastore' (X : fk_X E l0 G0 b00 own mn cc nL fr lo rc rs) {q : Option Nat} {i : Int32} {x : Option Nat} (d : decode cc pc = .ok (.aastore, 1)) {f : fk_M → Option ρ} (hf : (sR mp q i x).bind f = some z) (kk : ∀ m : fk_M, f m = some z → fk_W E nL n m cs sl (pc + 1) lv st) : fk_W E nL n mp cs sl pc lv (tR x :: tI i :: tR q :: st) := by
  obtain ⟨m, h1, h2⟩ := bI hf
  exact fk_aastore X d h1 (kk m h2)
theorem fk_alen' (X : fk_X E l0 G0 b00 own mn cc nL fr lo rc rs) {q : Option Nat} (d : decode cc pc = .ok (.arraylength, 1)) {f : Int32 → Option ρ} (hf : (aLn mp q).bind f = some z) (kk : ∀ x : Int32, f x = some z → fk_W E nL n mp cs sl (pc + 1) lv (tI x :: st)) : fk_W E nL n mp cs sl pc lv (tR q :: st) := by
  obtain ⟨x, h1, h2⟩ := bI hf
  exact fk_alen X d h1 (kk x h2)
theorem fk_cast' (X : fk_X E l0 G0 b00 own mn cc nL fr lo rc rs) {q : Option Nat} {ci N index : Nat} {C : String} {T : u_T} (hcl : fk_cl[ci]? = some (C, T, N)) (lk : Cond.classLink own index C ∈ lw_all) (d : decode cc pc = .ok (.checkcast index, 3)) {f : Unit → Option ρ} (hf : (cst mp q ci).bind f = some z) (kk : f () = some z → fk_W E nL n mp cs sl (pc + 3) lv (tR q :: st)) : fk_W E nL n mp cs sl pc lv (tR q :: st) := by
  obtain ⟨x, h1, h2⟩ := bI hf
  exact fk_cast X hcl lk d h1 (kk h2)
theorem fk_inst' (X : fk_X E l0 G0 b00 own mn cc nL fr lo rc rs) {q : Option Nat} {ci N index : Nat} {C : String} {T : u_T} (hcl : fk_cl[ci]? = some (C, T, N)) (lk : Cond.classLink own index C ∈ lw_all) (d : decode cc pc = .ok (.instanceof index, 3)) {f : Int32 → Option ρ} (hf : (ist mp q ci).bind f = some z) (kk : ∀ x : Int32, f x = some z → fk_W E nL n mp cs sl (pc + 3) lv (tI x :: st)) : fk_W E nL n mp cs sl pc lv (tR q :: st) := by
  obtain ⟨x, h1, h2⟩ := bI hf
  exact fk_inst X hcl lk d h1 (kk x h2)
theorem fk_castB' (X : fk_X E l0 G0 b00 own mn cc nL fr lo rc rs) {q : Option Nat} {index : Nat} (lk : Cond.classLink own index "[B" ∈ lw_all) (d : decode cc pc = .ok (.checkcast index, 3)) {f : Unit → Option ρ} (hf : (cstB mp q).bind f = some z) (kk : f () = some z → fk_W E nL n mp cs sl (pc + 3) lv (tR q :: st)) : fk_W E nL n mp cs sl pc lv (tR q :: st) := by
  obtain ⟨x, h1, h2⟩ := bI hf
  exact fk_castB X lk d h1 (kk h2)
theorem fk_getC' (X : fk_X E l0 G0 b00 own mn cc nL fr lo rc rs) {q : Option Nat} {index : Nat} (lk : Cond.methodLink own index ⟨"java/lang/Object", "getClass", "()Ljava/lang/Class;"⟩ ∈ lw_all) (w1 : Cond.selects "[Ljava/lang/Object;" ⟨"java/lang/Object", "getClass", "()Ljava/lang/Class;"⟩ ⟨"java/lang/Object", "getClass", "()Ljava/lang/Class;"⟩ ∈ lw_all) (w2 : Cond.instanceMethod ⟨"java/lang/Object", "getClass", "()Ljava/lang/Class;"⟩ ∈ lw_all) (w3 : Cond.native ⟨"java/lang/Object", "getClass", "()Ljava/lang/Class;"⟩ ∈ lw_all) (d : decode cc pc = .ok (.invokevirtual index, 3)) (hfr : Nat.ble 1 fr = true) (hlo2 : Nat.ble (fk_w st + 14) lo = true) {f : Unit → Option ρ} (hf : (isQ mp q).bind f = some z) (kk : f () = some z → fk_W E nL n mp cs sl (pc + 3) lv (tR (some (G0.2.2 41)) :: st)) : fk_W E nL n mp cs sl pc lv (tR q :: st) := by
  obtain ⟨x, h1, h2⟩ := bI hf
  exact fk_getC X lk w1 w2 w3 d hfr hlo2 h1 (kk h2)
theorem fk_copyI' (X : fk_X E l0 G0 b00 own mn cc nL fr lo rc rs) {q1 q2 : Option Nat} {sp dp k : Int32} {index : Nat} (lk : Cond.methodLink own index arraycopyName ∈ lw_all) (w1 : Cond.native arraycopyName ∈ lw_all) (w2 : Cond.static arraycopyName ∈ lw_all) (w3 : Cond.initialized "java/lang/System" ∈ lw_all) (d : decode cc pc = .ok (.invokestatic index, 3)) (hfr : Nat.ble 1 fr = true) (hlo2 : Nat.ble (fk_w st + (nativeFrameWords "java/lang/System" "arraycopy" 5 + 11)) lo = true) {f : fk_M → Option ρ} (hf : (cpI mp q1 sp q2 dp k).bind f = some z) (kk : ∀ m : fk_M, f m = some z → fk_W E nL n m cs sl (pc + 3) lv st) : fk_W E nL n mp cs sl pc lv (tI k :: tI dp :: tR q2 :: tI sp :: tR q1 :: st) := by
  obtain ⟨m, h1, h2⟩ := bI hf
  exact fk_copyI X lk w1 w2 w3 d hfr hlo2 h1 (kk m h2)
theorem fk_copyR' (X : fk_X E l0 G0 b00 own mn cc nL fr lo rc rs) {q1 q2 : Option Nat} {sp dp k : Int32} {index : Nat} (lk : Cond.methodLink own index arraycopyName ∈ lw_all) (w1 : Cond.native arraycopyName ∈ lw_all) (w2 : Cond.static arraycopyName ∈ lw_all) (w3 : Cond.initialized "java/lang/System" ∈ lw_all) (d : decode cc pc = .ok (.invokestatic index, 3)) (hfr : Nat.ble 1 fr = true) (hlo2 : Nat.ble (fk_w st + (nativeFrameWords "java/lang/System" "arraycopy" 5 + 11)) lo = true) {f : fk_M → Option ρ} (hf : (cpR mp q1 sp q2 dp k).bind f = some z) (kk : ∀ m : fk_M, f m = some z → fk_W E nL n m cs sl (pc + 3) lv st) : fk_W E nL n mp cs sl pc lv (tI k :: tI dp :: tR q2 :: tI sp :: tR q1 :: st) := by
  obtain ⟨m, h1, h2⟩ := bI hf
  exact fk_copyR X lk w1 w2 w3 d hfr hlo2 h1 (kk m h2)
theorem fk_objInit' (X : fk_X E l0 G0 b00 own mn cc nL fr lo rc rs) {index : Nat} {q : Option Nat} (q1 : Cond.methodLink own index Lib.objectInit ∈ lw_all) (q2 : Cond.instanceMethod Lib.objectInit ∈ lw_all) (q3 : Cond.code Lib.objectInit ⟨#[0xb1]⟩ 1 none ∈ lw_all) (d : decode cc pc = .ok (.invokespecial index, 3)) (hfr : Nat.ble 1 fr = true) (hlo2 : Nat.ble (fk_w st + 12) lo = true) {f : Unit → Option ρ} (hf : (isS q).bind f = some z) (kk : f () = some z → fk_W E nL n mp cs sl (pc + 3) lv st) : fk_W E nL n mp cs sl pc lv (tR q :: st) := by
  obtain ⟨u, h1, h2⟩ := bI hf
  exact fk_objInit X h1 q1 q2 q3 d hfr hlo2 (kk h2)
theorem fk_cut' {lv2 : List (Nat × fk_T)} (k : fk_W E nL n mp cs sl pc lv2 st) (ks : List Nat) (h : fk_pick lv ks = lv2) : fk_W E nL n mp cs sl pc lv st := fk_cut ks h k
end FKH
