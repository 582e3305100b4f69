/-! BASE 1: typed values, a heap as a function, the walk's judgement over it -/
set_option maxRecDepth 100000
abbrev fk_T : Type := Int32 ⊕ (Int64 ⊕ Option Nat)
abbrev tI (x : Int32) : fk_T := Sum.inl x
abbrev tL (x : Int64) : fk_T := Sum.inr (Sum.inl x)
abbrev tR (q : Option Nat) : fk_T := Sum.inr (Sum.inr q)
def fk_v : fk_T → Value
  | Sum.inl x => .int x
  | Sum.inr (Sum.inl x) => .long x
  | Sum.inr (Sum.inr q) => va_rf q
def fk_2 : fk_T → Bool
  | Sum.inr (Sum.inl _) => true
  | _ => false
theorem fk_cat (v : fk_T) : (fk_v v).category = if fk_2 v then 2 else 1 := by
  rcases v with x | x | q
  · rfl
  · rfl
  · cases q <;> rfl
def fk_l (lv : List (Nat × fk_T)) : List (Nat × Value) := lv.map (fun q => (q.1, fk_v q.2))
def fk_s (st : List fk_T) : List Value := st.map fk_v
/-- an array of ints (0), bytes (1), shorts (2); of longs; of references; an object by the number of its class -/
abbrev fk_C : Type := (Nat × Nat × (Nat → Int32)) ⊕ ((Nat × (Nat → Int64)) ⊕ ((Nat × (Nat → Option Nat)) ⊕ (Nat × (Nat → fk_T))))
abbrev fk_M : Type := Nat → Option (Bool × fk_C)
abbrev aN (t n : Nat) (f : Nat → Int32) : fk_C := Sum.inl (t, n, f)
abbrev aJ (n : Nat) (f : Nat → Int64) : fk_C := Sum.inr (Sum.inl (n, f))
abbrev aQ (n : Nat) (f : Nat → Option Nat) : fk_C := Sum.inr (Sum.inr (Sum.inl (n, f)))
abbrev oB (ci : Nat) (V : Nat → fk_T) : fk_C := Sum.inr (Sum.inr (Sum.inr (ci, V)))
/-- classes and slots, array classes, addresses of what is there from the start -/
abbrev fk_G : Type := va_G × (Nat → ClassId) × (Nat → Nat)
def fk_ty (t : Nat) : FieldType := match t with
  | 0 => .int
  | 1 => .byte
  | 2 => .short
  | 3 => .long
  | _ => .object "java/lang/Object"
abbrev fk_cl : List vw_C := [(RX1, TX1, 20), (RX2, TX2, 42), (RX3, TX3, 5), (RX4, TX4, 3), (RX5, TX5, 8), (RX6, TX6, 4), (RX7, TX7, 7), (RX9, TX9, 1), (RX10, TX10, 1), (RX11, TX11, 1), (RX12, TX12, 1), (RX13, TX13, 3), (RX14, TX14, 3), (RX15, TX15, 5), (RJ2, TJ2, 3), (RJ4, TJ4, 4), (RJ5, TJ5, 4), (RJ16, TJ16, 6)]
def fk_at (G : fk_G) (a : Nat) (e : fk_C) (H : Heap) : Prop := match e with
  | Sum.inl (t, n, f) => (t < 3 ∧ ∀ j : Nat, fits (fk_ty t) (.int (f j)) = true) ∧ H[a]? = some (arrV (G.2.1 t) n (fun j => .int (f j)))
  | Sum.inr (Sum.inl (n, f)) => H[a]? = some (arrV (G.2.1 3) n (fun j => .long (f j)))
  | Sum.inr (Sum.inr (Sum.inl (n, f))) => H[a]? = some (arrV (G.2.1 4) n (fun j => va_rf (f j)))
  | Sum.inr (Sum.inr (Sum.inr (ci, V))) => ∃ r : vw_C, fk_cl[ci]? = some r ∧ t_OB a (G.1.1 ci) r.2.2 (G.1.2 ci) H (fun k => fk_v (V k))
theorem fk_at.kept {G : fk_G} {a : Nat} {e : fk_C} {H H1 : Heap} (h : fk_at G a e H) (hq : H1[a]? = H[a]?) : fk_at G a e H1 := by
  rcases e with ⟨t, n, f⟩ | ⟨n, f⟩ | ⟨n, f⟩ | ⟨ci, V⟩
  · exact ⟨h.1, hq.trans h.2⟩
  · exact hq.trans h
  · exact hq.trans h
  · obtain ⟨r, h1, h2⟩ := h
    exact ⟨r, h1, h2.kept hq⟩
theorem fk_at.lt {G : fk_G} {a : Nat} {e : fk_C} {H : Heap} (h : fk_at G a e H) : a < H.size := by
  rcases e with ⟨t, n, f⟩ | ⟨n, f⟩ | ⟨n, f⟩ | ⟨ci, V⟩
  · exact (Array.getElem?_eq_some_iff.mp h.2).1
  · exact (Array.getElem?_eq_some_iff.mp h).1
  · exact (Array.getElem?_eq_some_iff.mp h).1
  · obtain ⟨r, h1, cell, h2, -⟩ := h
    exact (Array.getElem?_eq_some_iff.mp h2).1
def fk_R (G : fk_G) (b0 n : Nat) (mp : fk_M) (H : Heap) : Prop := H.size = n ∧ b0 ≤ n ∧ ∀ (a : Nat) (w : Bool) (e : fk_C), mp a = some (w, e) → fk_at G a e H ∧ (w = true → b0 ≤ a)
/-- a cell is written -/
def fk_up (mp : fk_M) (a : Nat) (e : fk_C) : fk_M := fun j => if j = a then some (true, e) else mp j
theorem fk_R.set {G : fk_G} {b0 n : Nat} {mp : fk_M} {H H1 : Heap} {a : Nat} {e0 e : fk_C} (h : fk_R G b0 n mp H) (ha : mp a = some (true, e0)) (he : fk_at G a e H1) (z : H1.size = H.size) (oq : ∀ q : Nat, q ≠ a → H1[q]? = H[q]?) : fk_R G b0 n (fk_up mp a e) H1 := by
  refine ⟨z.trans h.1, h.2.1, fun b w x hb => ?_⟩
  unfold fk_up at hb
  by_cases hba : b = a
  · subst hba
    rw [if_pos rfl] at hb
    cases hb
    exact ⟨he, fun _ => (h.2.2 b true e0 ha).2 rfl⟩
  · rw [if_neg hba] at hb
    exact ⟨(h.2.2 b w x hb).1.kept (oq b hba), (h.2.2 b w x hb).2⟩
theorem fk_R.push {G : fk_G} {b0 n : Nat} {mp : fk_M} {H H1 : Heap} {e : fk_C} (h : fk_R G b0 n mp H) (he : fk_at G n e H1) (z : H1.size = n + 1) (oq : ∀ q : Nat, q < n → H1[q]? = H[q]?) : fk_R G b0 (n + 1) (fk_up mp n e) H1 := by
  refine ⟨z, Nat.le_succ_of_le h.2.1, fun b w x hb => ?_⟩
  unfold fk_up at hb
  by_cases hba : b = n
  · subst hba
    rw [if_pos rfl] at hb
    cases hb
    exact ⟨he, fun _ => h.2.1⟩
  · rw [if_neg hba] at hb
    have hl := (h.2.2 b w x hb).1.lt
    rw [h.1] at hl
    exact ⟨(h.2.2 b w x hb).1.kept (oq b hl), (h.2.2 b w x hb).2⟩
/-- the String constants: class, entry, text; the number is their place in G.2.2 -/
abbrev fk_Z : Type := List (String × Nat × String)
