/-! PLAIN 2: the heap of the law: the component's block (x .. x+7), the model's block (x+8 .. x+23), the rest b -/
set_option maxRecDepth 100000
def u1 (F : Nat → Int) (k : Nat) (v : Int) : Nat → Int := fun j => if j = k then v else F j
def u2 (A : Nat → Int → Int) (k : Nat) (i v : Int) : Nat → Int → Int := fun j t => if j = k then (if t = i then v else A j t) else A j t
def uP (P : Nat → Option Nat) (k : Nat) (v : Option Nat) : Nat → Option Nat := fun j => if j = k then v else P j
theorem u1_eq (F : Nat → Int) (k : Nat) (v : Int) : u1 F k v k = v := by unfold u1; rw [if_pos rfl]
theorem u1_ne (F : Nat → Int) {k j : Nat} (v : Int) (h : j ≠ k) : u1 F k v j = F j := by unfold u1; rw [if_neg h]
theorem u2_eq (A : Nat → Int → Int) (k : Nat) (i v : Int) : u2 A k i v k i = v := by unfold u2; rw [if_pos rfl, if_pos rfl]
theorem u2_nk (A : Nat → Int → Int) {k j : Nat} (i v : Int) (h : j ≠ k) : u2 A k i v j = A j := by unfold u2; funext t; rw [if_neg h]
theorem u2_ni (A : Nat → Int → Int) (k : Nat) {i t : Int} (v : Int) (h : t ≠ i) : u2 A k i v k t = A k t := by unfold u2; rw [if_pos rfl, if_neg h]
theorem uP_eq (F : Nat → Option Nat) (k : Nat) (v : Option Nat) : uP F k v k = v := by unfold uP; rw [if_pos rfl]
theorem uP_ne (F : Nat → Option Nat) {k j : Nat} (v : Option Nat) (h : j ≠ k) : uP F k v j = F j := by unfold uP; rw [if_neg h]
theorem fo_of {mp : fk_M} {a ci : Nat} {w : Bool} {V : Nat → fk_T} (h : mp a = some (w, oB ci V)) : fk_o mp (some a) ci = some (w, V) := by
  unfold fk_o
  simp only [h, if_true]
theorem gI_of {mp : fk_M} {a ci k : Nat} {w : Bool} {V : Nat → fk_T} {y : Int32} (h : mp a = some (w, oB ci V)) (hv : V k = tI y) : gI mp (some a) ci k = some y := by
  unfold gI
  rw [fo_of h, Option.bind_some]
  exact (congrArg asI hv).trans rfl
theorem gL_of {mp : fk_M} {a ci k : Nat} {w : Bool} {V : Nat → fk_T} {y : Int64} (h : mp a = some (w, oB ci V)) (hv : V k = tL y) : gL mp (some a) ci k = some y := by
  unfold gL
  rw [fo_of h, Option.bind_some]
  exact (congrArg asL hv).trans rfl
theorem gR_of {mp : fk_M} {a ci k : Nat} {w : Bool} {V : Nat → fk_T} {y : Option Nat} (h : mp a = some (w, oB ci V)) (hv : V k = tR y) : gR mp (some a) ci k = some y := by
  unfold gR
  rw [fo_of h, Option.bind_some]
  exact (congrArg asR hv).trans rfl
theorem isO_of {mp : fk_M} {a ci : Nat} {w : Bool} {V : Nat → fk_T} (h : mp a = some (w, oB ci V)) : isO mp (some a) ci = some () := by
  unfold isO
  rw [fo_of h]
  rfl
theorem pV_of {mp : fk_M} {a ci : Nat} {V : Nat → fk_T} (k : Nat) (v : fk_T) (h : mp a = some (true, oB ci V)) : pV mp (some a) ci k v = some (fk_up mp a (oB ci (fk_set V k v))) := by
  unfold pV
  simp only [fo_of h]
theorem aI_of {mp : fk_M} {a t n : Nat} {w : Bool} {f : Nat → Int32} {i : Int} (h : mp a = some (w, aN t n f)) (h0 : 0 ≤ i) (h1 : i < (n : Int)) (h2 : i ≤ 2147483647) : aI mp (some a) t (ii i) = some (f i.toNat) := by
  unfold aI
  have e0 : (0 : Int32) = ii 0 := rfl
  have e1 := ii_nat h0 h2
  have hc : ¬ (ii i < 0 ∨ n ≤ i.toNat) := by
    rw [e0, ii_lt (by omega) (by omega)]
    omega
  simp only [h, if_true, e1, if_neg hc]
theorem sI_of {mp : fk_M} {a t n : Nat} {f : Nat → Int32} {i : Int} (v : Int32) (h : mp a = some (true, aN t n f)) (h0 : 0 ≤ i) (h1 : i < (n : Int)) (h2 : i ≤ 2147483647) : sI mp (some a) t (ii i) v = some (fk_up mp a (aN t n (upd f i.toNat (fk_nr t v)))) := by
  unfold sI
  have e0 : (0 : Int32) = ii 0 := rfl
  have e1 := ii_nat h0 h2
  have hc : ¬ (ii i < 0 ∨ n ≤ i.toNat) := by
    rw [e0, ii_lt (by omega) (by omega)]
    omega
  simp only [h, if_true, e1, if_neg hc]
theorem aR_of {mp : fk_M} {a n : Nat} {w : Bool} {f : Nat → Option Nat} {i : Int} (h : mp a = some (w, aQ n f)) (h0 : 0 ≤ i) (h1 : i < (n : Int)) (h2 : i ≤ 2147483647) : aR mp (some a) (ii i) = some (f i.toNat) := by
  unfold aR
  have e0 : (0 : Int32) = ii 0 := rfl
  have e1 := ii_nat h0 h2
  have hc : ¬ (ii i < 0 ∨ n ≤ i.toNat) := by
    rw [e0, ii_lt (by omega) (by omega)]
    omega
  simp only [h, e1, if_neg hc]
theorem sR_of {mp : fk_M} {a n : Nat} {f : Nat → Option Nat} {i : Int} (v : Option Nat) (h : mp a = some (true, aQ n f)) (h0 : 0 ≤ i) (h1 : i < (n : Int)) (h2 : i ≤ 2147483647) (hv : fk_ok mp v = true) : sR mp (some a) (ii i) v = some (fk_up mp a (aQ n (va_up f i.toNat v))) := by
  unfold sR
  have e0 : (0 : Int32) = ii 0 := rfl
  have e1 := ii_nat h0 h2
  have hc : ¬ (ii i < 0 ∨ n ≤ i.toNat) := by
    rw [e0, ii_lt (by omega) (by omega)]
    omega
  simp only [h, e1, if_neg hc, if_pos hv]
theorem aLn_ofI {mp : fk_M} {a t n : Nat} {w : Bool} {f : Nat → Int32} (h : mp a = some (w, aN t n f)) : aLn mp (some a) = some (ii n) := by
  unfold aLn
  simp only [h]
  rfl
theorem aLn_ofR {mp : fk_M} {a n : Nat} {w : Bool} {f : Nat → Option Nat} (h : mp a = some (w, aQ n f)) : aLn mp (some a) = some (ii n) := by
  unfold aLn
  simp only [h]
  rfl
theorem gI_cg {mp mp' : fk_M} {a : Nat} (h : mp a = mp' a) (ci k : Nat) : gI mp (some a) ci k = gI mp' (some a) ci k := by
  unfold gI fk_o
  simp only [h]
theorem gR_cg {mp mp' : fk_M} {a : Nat} (h : mp a = mp' a) (ci k : Nat) : gR mp (some a) ci k = gR mp' (some a) ci k := by
  unfold gR fk_o
  simp only [h]
theorem isO_cg {mp mp' : fk_M} {a : Nat} (h : mp a = mp' a) (ci : Nat) : isO mp (some a) ci = isO mp' (some a) ci := by
  unfold isO fk_o
  simp only [h]
theorem aI_cg {mp mp' : fk_M} {a : Nat} (h : mp a = mp' a) (t : Nat) (i : Int32) : aI mp (some a) t i = aI mp' (some a) t i := by
  unfold aI
  simp only [h]
theorem aR_cg {mp mp' : fk_M} {a : Nat} (h : mp a = mp' a) (i : Int32) : aR mp (some a) i = aR mp' (some a) i := by
  unfold aR
  simp only [h]
theorem aLn_cg {mp mp' : fk_M} {a : Nat} (h : mp a = mp' a) : aLn mp (some a) = aLn mp' (some a) := by
  unfold aLn
  simp only [h]
def kkind : Nat → Nat
  | 0 => 1
  | 5 => 30
  | 6 => 30
  | 7 => 2
  | 8 => 3
  | 9 => 4
  | 16 => 5
  | 18 => 6
  | 19 => 7
  | _ => 0
def mkind : Nat → Nat
  | 1 => 9
  | 12 => 10
  | 15 => 11
  | 16 => 12
  | 17 => 13
  | 18 => 14
  | 19 => 15
  | 20 => 16
  | 21 => 17
  | 24 => 18
  | 25 => 19
  | 30 => 20
  | 34 => 21
  | 35 => 22
  | 38 => 23
  | 39 => 1
  | 40 => 1
  | 41 => 1
  | _ => 0
def kt : Nat → Nat
  | 1 => 1
  | 4 => 2
  | 5 => 0
  | 6 => 0
  | 7 => 0
  | _ => 0
def kn : Nat → Nat
  | 1 => 900
  | 4 => 2710
  | 5 => 4
  | 6 => 32
  | 7 => 5
  | _ => 0
def kf : Nat → Nat
  | 1 => 0
  | 4 => 9
  | 5 => 16
  | 6 => 18
  | 7 => 19
  | _ => 200
def mn : Nat → Nat
  | 9 => 900
  | 10 => 8
  | 11 => 95
  | 12 => 95
  | 13 => 36
  | 14 => 36
  | 15 => 36
  | 16 => 576
  | 17 => 108
  | 18 => 2600
  | 19 => 900
  | 20 => 4
  | 21 => 5
  | 22 => 5
  | 23 => 5
  | _ => 0
def mf : Nat → Nat
  | 9 => 1
  | 10 => 12
  | 11 => 15
  | 12 => 16
  | 13 => 17
  | 14 => 18
  | 15 => 19
  | 16 => 20
  | 17 => 21
  | 18 => 24
  | 19 => 25
  | 20 => 30
  | 21 => 34
  | 22 => 35
  | 23 => 38
  | _ => 200
def kV (x : Nat) (F : Nat → Int) (P : Nat → Option Nat) (k : Nat) : fk_T := if 20 ≤ k then tI 0 else if kkind k = 0 then tI (ii (F k)) else if kkind k = 30 then tR (P k) else tR (some (x + kkind k))
def mV (x : Nat) (f l : Nat → Int) (k : Nat) : fk_T := if mkind k = 0 then tI (ii (f k)) else if mkind k = 1 then tL (Int64.ofInt (l k)) else tR (some (x + mkind k))
def lV (F : Nat → Int) (P : Nat → Option Nat) (o k : Nat) : fk_T := if k = 0 then tI (ii (F o)) else if k = 1 then tR (P o) else if k = 2 then tI (ii (F (o + 1))) else tI 0
theorem kV_I (x : Nat) (F : Nat → Int) (P : Nat → Option Nat) (k : Nat) (v : Int) (h : kkind k = 0) (hk : k < 20) : fk_set (kV x F P) k (tI (ii v)) = kV x (u1 F k v) P := by
  funext j
  unfold fk_set kV u1
  by_cases hj : j = k
  · subst hj
    rw [if_pos rfl, if_neg (by omega), if_pos rfl, if_pos h]
  · rw [if_neg hj, if_neg hj]
theorem kV_R (x : Nat) (F : Nat → Int) (P : Nat → Option Nat) (k : Nat) (v : Option Nat) (h : kkind k = 30) (hk : k < 20) : fk_set (kV x F P) k (tR v) = kV x F (uP P k v) := by
  funext j
  unfold fk_set kV uP
  by_cases hj : j = k
  · subst hj
    rw [if_pos rfl, if_neg (by omega), if_pos rfl, if_neg (by omega), if_pos h]
  · rw [if_neg hj, if_neg hj]
theorem mV_I (x : Nat) (f l : Nat → Int) (k : Nat) (v : Int) (h : mkind k = 0) : fk_set (mV x f l) k (tI (ii v)) = mV x (u1 f k v) l := by
  funext j
  unfold fk_set mV u1
  by_cases hj : j = k
  · subst hj
    rw [if_pos rfl, if_pos rfl, if_pos h]
  · rw [if_neg hj, if_neg hj]
theorem mV_L (x : Nat) (f l : Nat → Int) (k : Nat) (v : Int) (h : mkind k = 1) : fk_set (mV x f l) k (tL (Int64.ofInt v)) = mV x f (u1 l k v) := by
  funext j
  unfold fk_set mV u1
  by_cases hj : j = k
  · subst hj
    rw [if_pos rfl, if_pos rfl, if_neg (by omega), if_pos h]
  · rw [if_neg hj, if_neg hj]
theorem lV_0 (F : Nat → Int) (P : Nat → Option Nat) (o : Nat) (v : Int) : fk_set (lV F P o) 0 (tI (ii v)) = lV (u1 F o v) P o := by
  funext j
  unfold fk_set lV u1
  by_cases hj : j = 0
  · rw [if_pos hj, if_pos hj, if_pos rfl]
  · rw [if_neg hj, if_neg hj, if_neg hj, if_neg (show ¬ o + 1 = o by omega)]
theorem lV_1 (F : Nat → Int) (P : Nat → Option Nat) (o : Nat) (v : Option Nat) : fk_set (lV F P o) 1 (tR v) = lV F (uP P o v) o := by
  funext j
  unfold fk_set lV uP
  by_cases hj : j = 1
  · subst hj
    rw [if_pos rfl, if_neg (by omega), if_pos rfl, if_pos rfl]
  · rw [if_neg hj, if_neg hj, if_neg hj]
theorem lV_2 (F : Nat → Int) (P : Nat → Option Nat) (o : Nat) (v : Int) : fk_set (lV F P o) 2 (tI (ii v)) = lV (u1 F (o + 1) v) P o := by
  funext j
  unfold fk_set lV u1
  by_cases hj : j = 2
  · subst hj
    rw [if_pos rfl, if_neg (by omega), if_neg (by omega), if_pos rfl, if_pos rfl]
  · rw [if_neg hj, if_neg hj, if_neg hj, if_neg (show ¬ o = o + 1 by omega)]
theorem lV_F {F F' : Nat → Int} {P P' : Nat → Option Nat} {o : Nat} (h0 : F' o = F o) (h1 : P' o = P o) (h2 : F' (o + 1) = F (o + 1)) : lV F' P' o = lV F P o := by
  funext j
  unfold lV
  rw [h0, h1, h2]
theorem kV_F {x : Nat} {F F' : Nat → Int} {P P' : Nat → Option Nat} (h0 : ∀ k, k < 100 → F' k = F k) (h1 : ∀ k, k < 100 → P' k = P k) : kV x F' P' = kV x F P := by
  funext j
  unfold kV
  by_cases hj : 20 ≤ j
  · rw [if_pos hj, if_pos hj]
  · rw [if_neg hj, if_neg hj, h0 j (by omega), h1 j (by omega)]
def hp (x : Nat) (F : Nat → Int) (P : Nat → Option Nat) (A : Nat → Int → Int) (f l : Nat → Int) (a : Nat → Int → Int) (b : fk_M) : fk_M := fun q => if q < x then b q else if q = x then some (true, oB 0 (kV x F P)) else if q = x + 2 then some (true, oB 14 (lV F P 100)) else if q = x + 3 then some (true, oB 14 (lV F P 110)) else if q < x + 8 then some (true, aN (kt (q - x)) (kn (q - x)) (fun i => ii (A (kf (q - x)) i))) else if q = x + 8 then some (true, oB 1 (mV x f l)) else if q < x + 24 then some (true, aN 0 (mn (q - x)) (fun i => ii (a (mf (q - x)) i))) else b q
theorem hp_0 (x : Nat) (F : Nat → Int) (P : Nat → Option Nat) (A : Nat → Int → Int) (f l : Nat → Int) (a : Nat → Int → Int) (b : fk_M) : hp x F P A f l a b x = some (true, oB 0 (kV x F P)) := by
  unfold hp
  rw [if_neg (by omega), if_pos rfl]
theorem hp_2 (x : Nat) (F : Nat → Int) (P : Nat → Option Nat) (A : Nat → Int → Int) (f l : Nat → Int) (a : Nat → Int → Int) (b : fk_M) : hp x F P A f l a b (x + 2) = some (true, oB 14 (lV F P 100)) := by
  unfold hp
  rw [if_neg (by omega), if_neg (by omega), if_pos rfl]
theorem hp_3 (x : Nat) (F : Nat → Int) (P : Nat → Option Nat) (A : Nat → Int → Int) (f l : Nat → Int) (a : Nat → Int → Int) (b : fk_M) : hp x F P A f l a b (x + 3) = some (true, oB 14 (lV F P 110)) := by
  unfold hp
  rw [if_neg (by omega), if_neg (by omega), if_neg (by omega), if_pos rfl]
theorem hp_8 (x : Nat) (F : Nat → Int) (P : Nat → Option Nat) (A : Nat → Int → Int) (f l : Nat → Int) (a : Nat → Int → Int) (b : fk_M) : hp x F P A f l a b (x + 8) = some (true, oB 1 (mV x f l)) := by
  unfold hp
  rw [if_neg (by omega), if_neg (by omega), if_neg (by omega), if_neg (by omega), if_neg (by omega), if_pos rfl]
theorem hp_k (x : Nat) (F : Nat → Int) (P : Nat → Option Nat) (A : Nat → Int → Int) (f l : Nat → Int) (a : Nat → Int → Int) (b : fk_M) (o : Nat) (h1 : o = 1 ∨ o = 4 ∨ o = 5 ∨ o = 6 ∨ o = 7) : hp x F P A f l a b (x + o) = some (true, aN (kt o) (kn o) (fun i => ii (A (kf o) i))) := by
  unfold hp
  rw [if_neg (by omega), if_neg (by omega), if_neg (by omega), if_neg (by omega), if_pos (by omega), show x + o - x = o from by omega]
theorem hp_m (x : Nat) (F : Nat → Int) (P : Nat → Option Nat) (A : Nat → Int → Int) (f l : Nat → Int) (a : Nat → Int → Int) (b : fk_M) (o : Nat) (h1 : 9 ≤ o) (h2 : o < 24) : hp x F P A f l a b (x + o) = some (true, aN 0 (mn o) (fun i => ii (a (mf o) i))) := by
  unfold hp
  rw [if_neg (by omega), if_neg (by omega), if_neg (by omega), if_neg (by omega), if_neg (by omega), if_neg (by omega), if_pos (by omega), show x + o - x = o from by omega]
theorem hp_out (x : Nat) (F : Nat → Int) (P : Nat → Option Nat) (A : Nat → Int → Int) (f l : Nat → Int) (a : Nat → Int → Int) (b : fk_M) {q : Nat} (h : q < x ∨ x + 24 ≤ q) : hp x F P A f l a b q = b q := by
  unfold hp
  by_cases hq : q < x
  · rw [if_pos hq]
  · rw [if_neg hq, if_neg (by omega), if_neg (by omega), if_neg (by omega), if_neg (by omega), if_neg (by omega), if_neg (by omega)]
theorem mf_injF : ∀ o j : Fin 24, 9 ≤ o.val → 9 ≤ j.val → j.val ≠ o.val → mf j.val ≠ mf o.val := by decide
theorem mf_inj (o : Nat) (ho : o < 24) (j : Nat) (hj : j < 24) (h1 : 9 ≤ o) (h2 : 9 ≤ j) (h3 : j ≠ o) : mf j ≠ mf o := mf_injF ⟨o, ho⟩ ⟨j, hj⟩ h1 h2 h3
theorem kf_inj (o : Nat) (_ : o < 8) (j : Nat) (_ : j < 8) (h1 : o = 1 ∨ o = 4 ∨ o = 5 ∨ o = 6 ∨ o = 7) (h2 : j = 1 ∨ j = 4 ∨ j = 5 ∨ j = 6 ∨ j = 7) (h3 : j ≠ o) : kf j ≠ kf o := by
  rcases h1 with rfl | rfl | rfl | rfl | rfl
  all_goals rcases h2 with rfl | rfl | rfl | rfl | rfl
  all_goals first | exact absurd rfl h3 | decide
/-- two such heaps that differ at one address alone -/
theorem hp_up {x : Nat} {F F' : Nat → Int} {P P' : Nat → Option Nat} {A A' : Nat → Int → Int} {f f' l l' : Nat → Int} {a a' : Nat → Int → Int} {b : fk_M} (o : Nat) {e : fk_C} (he : hp x F' P' A' f' l' a' b (x + o) = some (true, e)) (ho : ∀ j, j < 24 → j ≠ o → hp x F' P' A' f' l' a' b (x + j) = hp x F P A f l a b (x + j)) (hi : o < 24) : fk_up (hp x F P A f l a b) (x + o) e = hp x F' P' A' f' l' a' b := by
  funext q
  unfold fk_up
  by_cases hq : q = x + o
  · rw [if_pos hq, hq, he]
  · rw [if_neg hq]
    by_cases h2 : q < x ∨ x + 24 ≤ q
    · rw [hp_out _ _ _ _ _ _ _ _ h2, hp_out _ _ _ _ _ _ _ _ h2]
    · have h3 : q = x + (q - x) := by omega
      rw [h3]
      exact (ho (q - x) (by omega) (by omega)).symm
/-- cell by cell -/
theorem hp_cells {x : Nat} {F F' : Nat → Int} {P P' : Nat → Option Nat} {A A' : Nat → Int → Int} {f f' l l' : Nat → Int} {a a' : Nat → Int → Int} {b : fk_M} (j : Nat) (hj : j < 24) (h0 : j = 0 → kV x F' P' = kV x F P) (h2 : j = 2 → lV F' P' 100 = lV F P 100) (h3 : j = 3 → lV F' P' 110 = lV F P 110) (hk : (j = 1 ∨ j = 4 ∨ j = 5 ∨ j = 6 ∨ j = 7) → A' (kf j) = A (kf j)) (h8 : j = 8 → mV x f' l' = mV x f l) (hm : 9 ≤ j → a' (mf j) = a (mf j)) : hp x F' P' A' f' l' a' b (x + j) = hp x F P A f l a b (x + j) := by
  by_cases e0 : j = 0
  · subst e0
    rw [Nat.add_zero, hp_0, hp_0, h0 rfl]
  by_cases e2 : j = 2
  · subst e2
    rw [hp_2, hp_2, h2 rfl]
  by_cases e3 : j = 3
  · subst e3
    rw [hp_3, hp_3, h3 rfl]
  by_cases e8 : j = 8
  · subst e8
    rw [hp_8, hp_8, h8 rfl]
  by_cases e9 : 9 ≤ j
  · rw [hp_m _ _ _ _ _ _ _ _ j e9 hj, hp_m _ _ _ _ _ _ _ _ j e9 hj, hm e9]
  · have hc : j = 1 ∨ j = 4 ∨ j = 5 ∨ j = 6 ∨ j = 7 := by omega
    rw [hp_k _ _ _ _ _ _ _ _ j hc, hp_k _ _ _ _ _ _ _ _ j hc, hk hc]
theorem pkI (x : Nat) (F : Nat → Int) (P : Nat → Option Nat) (A : Nat → Int → Int) (f l : Nat → Int) (a : Nat → Int → Int) (b : fk_M) (k : Nat) (v : Int) (h : kkind k = 0) (hk : k < 20) : pV (hp x F P A f l a b) (some x) 0 k (tI (ii v)) = some (hp x (u1 F k v) P A f l a b) := by
  rw [pV_of k (tI (ii v)) (hp_0 ..), kV_I _ _ _ _ _ h hk]
  exact congrArg some (hp_up 0 (hp_0 ..) (fun j hj hne => hp_cells j hj (fun e => absurd e hne) (fun _ => lV_F (u1_ne _ _ (by omega)) rfl (u1_ne _ _ (by omega))) (fun _ => lV_F (u1_ne _ _ (by omega)) rfl (u1_ne _ _ (by omega))) (fun _ => rfl) (fun _ => rfl) (fun _ => rfl)) (by omega))
theorem pkR (x : Nat) (F : Nat → Int) (P : Nat → Option Nat) (A : Nat → Int → Int) (f l : Nat → Int) (a : Nat → Int → Int) (b : fk_M) (k : Nat) (v : Option Nat) (h : kkind k = 30) (hk : k < 20) : pV (hp x F P A f l a b) (some x) 0 k (tR v) = some (hp x F (uP P k v) A f l a b) := by
  rw [pV_of k (tR v) (hp_0 ..), kV_R _ _ _ _ _ h hk]
  exact congrArg some (hp_up 0 (hp_0 ..) (fun j hj hne => hp_cells j hj (fun e => absurd e hne) (fun _ => lV_F rfl (uP_ne _ _ (by omega)) rfl) (fun _ => lV_F rfl (uP_ne _ _ (by omega)) rfl) (fun _ => rfl) (fun _ => rfl) (fun _ => rfl)) (by omega))
theorem pmI (x : Nat) (F : Nat → Int) (P : Nat → Option Nat) (A : Nat → Int → Int) (f l : Nat → Int) (a : Nat → Int → Int) (b : fk_M) (k : Nat) (v : Int) (h : mkind k = 0) : pV (hp x F P A f l a b) (some (x + 8)) 1 k (tI (ii v)) = some (hp x F P A (u1 f k v) l a b) := by
  rw [pV_of k (tI (ii v)) (hp_8 ..), mV_I _ _ _ _ _ h]
  exact congrArg some (hp_up 8 (hp_8 ..) (fun j hj hne => hp_cells j hj (fun _ => rfl) (fun _ => rfl) (fun _ => rfl) (fun _ => rfl) (fun e => absurd e hne) (fun _ => rfl)) (by omega))
theorem pmL (x : Nat) (F : Nat → Int) (P : Nat → Option Nat) (A : Nat → Int → Int) (f l : Nat → Int) (a : Nat → Int → Int) (b : fk_M) (k : Nat) (v : Int) (h : mkind k = 1) : pV (hp x F P A f l a b) (some (x + 8)) 1 k (tL (Int64.ofInt v)) = some (hp x F P A f (u1 l k v) a b) := by
  rw [pV_of k (tL (Int64.ofInt v)) (hp_8 ..), mV_L _ _ _ _ _ h]
  exact congrArg some (hp_up 8 (hp_8 ..) (fun j hj hne => hp_cells j hj (fun _ => rfl) (fun _ => rfl) (fun _ => rfl) (fun _ => rfl) (fun e => absurd e hne) (fun _ => rfl)) (by omega))
theorem upd_ii (A : Nat → Int → Int) (k : Nat) {i : Int} (v : Int) (h0 : 0 ≤ i) : upd (fun j : Nat => ii (A k j)) i.toNat (ii v) = fun j : Nat => ii (u2 A k i v k j) := by
  funext j
  unfold upd u2
  by_cases hj : j = i.toNat
  · subst hj
    rw [if_pos rfl, if_pos rfl, if_pos (Int.toNat_of_nonneg h0)]
  · rw [if_neg hj, if_pos rfl, if_neg (by omega)]
theorem smG (x : Nat) (F : Nat → Int) (P : Nat → Option Nat) (A : Nat → Int → Int) (f l : Nat → Int) (a : Nat → Int → Int) (b : fk_M) (o : Nat) (h1 : 9 ≤ o) (h2 : o < 24) {i : Int} (v : Int) (h3 : 0 ≤ i) (h4 : i < (mn o : Int)) (h5 : i ≤ 2147483647) : sI (hp x F P A f l a b) (some (x + o)) 0 (ii i) (ii v) = some (hp x F P A f l (u2 a (mf o) i v) b) := by
  rw [sI_of (ii v) (hp_m _ _ _ _ _ _ _ _ o h1 h2) h3 h4 h5, show fk_nr 0 (ii v) = ii v from rfl, upd_ii a (mf o) v h3]
  exact congrArg some (hp_up o (hp_m _ _ _ _ _ _ _ _ o h1 h2) (fun j hj hne => hp_cells j hj (fun _ => rfl) (fun _ => rfl) (fun _ => rfl) (fun _ => rfl) (fun _ => rfl) (fun h9 => u2_nk _ _ _ (mf_inj o h2 j hj h1 h9 hne))) h2)
theorem skG (x : Nat) (F : Nat → Int) (P : Nat → Option Nat) (A : Nat → Int → Int) (f l : Nat → Int) (a : Nat → Int → Int) (b : fk_M) (o : Nat) (h1 : o = 1 ∨ o = 4 ∨ o = 5 ∨ o = 6 ∨ o = 7) {i : Int} (z : Int32) (v : Int) (hz : fk_nr (kt o) z = ii v) (h3 : 0 ≤ i) (h4 : i < (kn o : Int)) (h5 : i ≤ 2147483647) : sI (hp x F P A f l a b) (some (x + o)) (kt o) (ii i) z = some (hp x F P (u2 A (kf o) i v) f l a b) := by
  rw [sI_of z (hp_k _ _ _ _ _ _ _ _ o h1) h3 h4 h5, hz, upd_ii A (kf o) v h3]
  exact congrArg some (hp_up o (hp_k _ _ _ _ _ _ _ _ o h1) (fun j hj hne => hp_cells j hj (fun _ => rfl) (fun _ => rfl) (fun _ => rfl) (fun hc => u2_nk _ _ _ (kf_inj o (by omega) j (by omega) h1 hc hne)) (fun _ => rfl) (fun _ => rfl)) (by omega))
theorem rmG (x : Nat) (F : Nat → Int) (P : Nat → Option Nat) (A : Nat → Int → Int) (f l : Nat → Int) (a : Nat → Int → Int) (b : fk_M) (o : Nat) (h1 : 9 ≤ o) (h2 : o < 24) {i : Int} (h3 : 0 ≤ i) (h4 : i < (mn o : Int)) (h5 : i ≤ 2147483647) : aI (hp x F P A f l a b) (some (x + o)) 0 (ii i) = some (ii (a (mf o) i)) := by
  rw [aI_of (hp_m _ _ _ _ _ _ _ _ o h1 h2) h3 h4 h5, Int.toNat_of_nonneg h3]
theorem rkG (x : Nat) (F : Nat → Int) (P : Nat → Option Nat) (A : Nat → Int → Int) (f l : Nat → Int) (a : Nat → Int → Int) (b : fk_M) (o : Nat) (h1 : o = 1 ∨ o = 4 ∨ o = 5 ∨ o = 6 ∨ o = 7) {i : Int} (h3 : 0 ≤ i) (h4 : i < (kn o : Int)) (h5 : i ≤ 2147483647) : aI (hp x F P A f l a b) (some (x + o)) (kt o) (ii i) = some (ii (A (kf o) i)) := by
  rw [aI_of (hp_k _ _ _ _ _ _ _ _ o h1) h3 h4 h5, Int.toNat_of_nonneg h3]
theorem gk1 (x : Nat) (F : Nat → Int) (P : Nat → Option Nat) (A : Nat → Int → Int) (f l : Nat → Int) (a : Nat → Int → Int) (b : fk_M) : gI (hp x F P A f l a b) (some x) 0 1 = some (ii (F 1)) := gI_of (hp_0 ..) rfl
theorem gk2 (x : Nat) (F : Nat → Int) (P : Nat → Option Nat) (A : Nat → Int → Int) (f l : Nat → Int) (a : Nat → Int → Int) (b : fk_M) : gI (hp x F P A f l a b) (some x) 0 2 = some (ii (F 2)) := gI_of (hp_0 ..) rfl
theorem gk3 (x : Nat) (F : Nat → Int) (P : Nat → Option Nat) (A : Nat → Int → Int) (f l : Nat → Int) (a : Nat → Int → Int) (b : fk_M) : gI (hp x F P A f l a b) (some x) 0 3 = some (ii (F 3)) := gI_of (hp_0 ..) rfl
theorem gk4 (x : Nat) (F : Nat → Int) (P : Nat → Option Nat) (A : Nat → Int → Int) (f l : Nat → Int) (a : Nat → Int → Int) (b : fk_M) : gI (hp x F P A f l a b) (some x) 0 4 = some (ii (F 4)) := gI_of (hp_0 ..) rfl
theorem gk10 (x : Nat) (F : Nat → Int) (P : Nat → Option Nat) (A : Nat → Int → Int) (f l : Nat → Int) (a : Nat → Int → Int) (b : fk_M) : gI (hp x F P A f l a b) (some x) 0 10 = some (ii (F 10)) := gI_of (hp_0 ..) rfl
theorem gk11 (x : Nat) (F : Nat → Int) (P : Nat → Option Nat) (A : Nat → Int → Int) (f l : Nat → Int) (a : Nat → Int → Int) (b : fk_M) : gI (hp x F P A f l a b) (some x) 0 11 = some (ii (F 11)) := gI_of (hp_0 ..) rfl
theorem gk12 (x : Nat) (F : Nat → Int) (P : Nat → Option Nat) (A : Nat → Int → Int) (f l : Nat → Int) (a : Nat → Int → Int) (b : fk_M) : gI (hp x F P A f l a b) (some x) 0 12 = some (ii (F 12)) := gI_of (hp_0 ..) rfl
theorem gk13 (x : Nat) (F : Nat → Int) (P : Nat → Option Nat) (A : Nat → Int → Int) (f l : Nat → Int) (a : Nat → Int → Int) (b : fk_M) : gI (hp x F P A f l a b) (some x) 0 13 = some (ii (F 13)) := gI_of (hp_0 ..) rfl
theorem gk14 (x : Nat) (F : Nat → Int) (P : Nat → Option Nat) (A : Nat → Int → Int) (f l : Nat → Int) (a : Nat → Int → Int) (b : fk_M) : gI (hp x F P A f l a b) (some x) 0 14 = some (ii (F 14)) := gI_of (hp_0 ..) rfl
theorem gk15 (x : Nat) (F : Nat → Int) (P : Nat → Option Nat) (A : Nat → Int → Int) (f l : Nat → Int) (a : Nat → Int → Int) (b : fk_M) : gI (hp x F P A f l a b) (some x) 0 15 = some (ii (F 15)) := gI_of (hp_0 ..) rfl
theorem gk17 (x : Nat) (F : Nat → Int) (P : Nat → Option Nat) (A : Nat → Int → Int) (f l : Nat → Int) (a : Nat → Int → Int) (b : fk_M) : gI (hp x F P A f l a b) (some x) 0 17 = some (ii (F 17)) := gI_of (hp_0 ..) rfl
theorem gkr0 (x : Nat) (F : Nat → Int) (P : Nat → Option Nat) (A : Nat → Int → Int) (f l : Nat → Int) (a : Nat → Int → Int) (b : fk_M) : gR (hp x F P A f l a b) (some x) 0 0 = some (some (x + 1)) := gR_of (hp_0 ..) rfl
theorem gkr7 (x : Nat) (F : Nat → Int) (P : Nat → Option Nat) (A : Nat → Int → Int) (f l : Nat → Int) (a : Nat → Int → Int) (b : fk_M) : gR (hp x F P A f l a b) (some x) 0 7 = some (some (x + 2)) := gR_of (hp_0 ..) rfl
theorem gkr8 (x : Nat) (F : Nat → Int) (P : Nat → Option Nat) (A : Nat → Int → Int) (f l : Nat → Int) (a : Nat → Int → Int) (b : fk_M) : gR (hp x F P A f l a b) (some x) 0 8 = some (some (x + 3)) := gR_of (hp_0 ..) rfl
theorem gkr9 (x : Nat) (F : Nat → Int) (P : Nat → Option Nat) (A : Nat → Int → Int) (f l : Nat → Int) (a : Nat → Int → Int) (b : fk_M) : gR (hp x F P A f l a b) (some x) 0 9 = some (some (x + 4)) := gR_of (hp_0 ..) rfl
theorem gkr16 (x : Nat) (F : Nat → Int) (P : Nat → Option Nat) (A : Nat → Int → Int) (f l : Nat → Int) (a : Nat → Int → Int) (b : fk_M) : gR (hp x F P A f l a b) (some x) 0 16 = some (some (x + 5)) := gR_of (hp_0 ..) rfl
theorem gkr18 (x : Nat) (F : Nat → Int) (P : Nat → Option Nat) (A : Nat → Int → Int) (f l : Nat → Int) (a : Nat → Int → Int) (b : fk_M) : gR (hp x F P A f l a b) (some x) 0 18 = some (some (x + 6)) := gR_of (hp_0 ..) rfl
theorem gkr19 (x : Nat) (F : Nat → Int) (P : Nat → Option Nat) (A : Nat → Int → Int) (f l : Nat → Int) (a : Nat → Int → Int) (b : fk_M) : gR (hp x F P A f l a b) (some x) 0 19 = some (some (x + 7)) := gR_of (hp_0 ..) rfl
theorem gkr5 (x : Nat) (F : Nat → Int) (P : Nat → Option Nat) (A : Nat → Int → Int) (f l : Nat → Int) (a : Nat → Int → Int) (b : fk_M) : gR (hp x F P A f l a b) (some x) 0 5 = some (P 5) := gR_of (hp_0 ..) rfl
theorem gkr6 (x : Nat) (F : Nat → Int) (P : Nat → Option Nat) (A : Nat → Int → Int) (f l : Nat → Int) (a : Nat → Int → Int) (b : fk_M) : gR (hp x F P A f l a b) (some x) 0 6 = some (P 6) := gR_of (hp_0 ..) rfl
theorem ok0 (x : Nat) (F : Nat → Int) (P : Nat → Option Nat) (A : Nat → Int → Int) (f l : Nat → Int) (a : Nat → Int → Int) (b : fk_M) : isO (hp x F P A f l a b) (some x) 0 = some () := isO_of (hp_0 ..)
theorem ok1 (x : Nat) (F : Nat → Int) (P : Nat → Option Nat) (A : Nat → Int → Int) (f l : Nat → Int) (a : Nat → Int → Int) (b : fk_M) : isO (hp x F P A f l a b) (some (x + 8)) 1 = some () := isO_of (hp_8 ..)
theorem ok2 (x : Nat) (F : Nat → Int) (P : Nat → Option Nat) (A : Nat → Int → Int) (f l : Nat → Int) (a : Nat → Int → Int) (b : fk_M) : isO (hp x F P A f l a b) (some (x + 2)) 14 = some () := isO_of (hp_2 ..)
theorem ok3 (x : Nat) (F : Nat → Int) (P : Nat → Option Nat) (A : Nat → Int → Int) (f l : Nat → Int) (a : Nat → Int → Int) (b : fk_M) : isO (hp x F P A f l a b) (some (x + 3)) 14 = some () := isO_of (hp_3 ..)
theorem gl2_0 (x : Nat) (F : Nat → Int) (P : Nat → Option Nat) (A : Nat → Int → Int) (f l : Nat → Int) (a : Nat → Int → Int) (b : fk_M) : gI (hp x F P A f l a b) (some (x + 2)) 14 0 = some (ii (F 100)) := gI_of (hp_2 ..) rfl
theorem gl2_1 (x : Nat) (F : Nat → Int) (P : Nat → Option Nat) (A : Nat → Int → Int) (f l : Nat → Int) (a : Nat → Int → Int) (b : fk_M) : gR (hp x F P A f l a b) (some (x + 2)) 14 1 = some (P 100) := gR_of (hp_2 ..) rfl
theorem gl2_2 (x : Nat) (F : Nat → Int) (P : Nat → Option Nat) (A : Nat → Int → Int) (f l : Nat → Int) (a : Nat → Int → Int) (b : fk_M) : gI (hp x F P A f l a b) (some (x + 2)) 14 2 = some (ii (F 101)) := gI_of (hp_2 ..) rfl
theorem gl3_0 (x : Nat) (F : Nat → Int) (P : Nat → Option Nat) (A : Nat → Int → Int) (f l : Nat → Int) (a : Nat → Int → Int) (b : fk_M) : gI (hp x F P A f l a b) (some (x + 3)) 14 0 = some (ii (F 110)) := gI_of (hp_3 ..) rfl
theorem gl3_1 (x : Nat) (F : Nat → Int) (P : Nat → Option Nat) (A : Nat → Int → Int) (f l : Nat → Int) (a : Nat → Int → Int) (b : fk_M) : gR (hp x F P A f l a b) (some (x + 3)) 14 1 = some (P 110) := gR_of (hp_3 ..) rfl
theorem gl3_2 (x : Nat) (F : Nat → Int) (P : Nat → Option Nat) (A : Nat → Int → Int) (f l : Nat → Int) (a : Nat → Int → Int) (b : fk_M) : gI (hp x F P A f l a b) (some (x + 3)) 14 2 = some (ii (F 111)) := gI_of (hp_3 ..) rfl
theorem gm0 (x : Nat) (F : Nat → Int) (P : Nat → Option Nat) (A : Nat → Int → Int) (f l : Nat → Int) (a : Nat → Int → Int) (b : fk_M) : gI (hp x F P A f l a b) (some (x + 8)) 1 0 = some (ii (f 0)) := gI_of (hp_8 ..) rfl
theorem gm2 (x : Nat) (F : Nat → Int) (P : Nat → Option Nat) (A : Nat → Int → Int) (f l : Nat → Int) (a : Nat → Int → Int) (b : fk_M) : gI (hp x F P A f l a b) (some (x + 8)) 1 2 = some (ii (f 2)) := gI_of (hp_8 ..) rfl
theorem gm3 (x : Nat) (F : Nat → Int) (P : Nat → Option Nat) (A : Nat → Int → Int) (f l : Nat → Int) (a : Nat → Int → Int) (b : fk_M) : gI (hp x F P A f l a b) (some (x + 8)) 1 3 = some (ii (f 3)) := gI_of (hp_8 ..) rfl
theorem gm4 (x : Nat) (F : Nat → Int) (P : Nat → Option Nat) (A : Nat → Int → Int) (f l : Nat → Int) (a : Nat → Int → Int) (b : fk_M) : gI (hp x F P A f l a b) (some (x + 8)) 1 4 = some (ii (f 4)) := gI_of (hp_8 ..) rfl
theorem gm5 (x : Nat) (F : Nat → Int) (P : Nat → Option Nat) (A : Nat → Int → Int) (f l : Nat → Int) (a : Nat → Int → Int) (b : fk_M) : gI (hp x F P A f l a b) (some (x + 8)) 1 5 = some (ii (f 5)) := gI_of (hp_8 ..) rfl
theorem gm6 (x : Nat) (F : Nat → Int) (P : Nat → Option Nat) (A : Nat → Int → Int) (f l : Nat → Int) (a : Nat → Int → Int) (b : fk_M) : gI (hp x F P A f l a b) (some (x + 8)) 1 6 = some (ii (f 6)) := gI_of (hp_8 ..) rfl
theorem gm7 (x : Nat) (F : Nat → Int) (P : Nat → Option Nat) (A : Nat → Int → Int) (f l : Nat → Int) (a : Nat → Int → Int) (b : fk_M) : gI (hp x F P A f l a b) (some (x + 8)) 1 7 = some (ii (f 7)) := gI_of (hp_8 ..) rfl
theorem gm8 (x : Nat) (F : Nat → Int) (P : Nat → Option Nat) (A : Nat → Int → Int) (f l : Nat → Int) (a : Nat → Int → Int) (b : fk_M) : gI (hp x F P A f l a b) (some (x + 8)) 1 8 = some (ii (f 8)) := gI_of (hp_8 ..) rfl
theorem gm9 (x : Nat) (F : Nat → Int) (P : Nat → Option Nat) (A : Nat → Int → Int) (f l : Nat → Int) (a : Nat → Int → Int) (b : fk_M) : gI (hp x F P A f l a b) (some (x + 8)) 1 9 = some (ii (f 9)) := gI_of (hp_8 ..) rfl
theorem gm10 (x : Nat) (F : Nat → Int) (P : Nat → Option Nat) (A : Nat → Int → Int) (f l : Nat → Int) (a : Nat → Int → Int) (b : fk_M) : gI (hp x F P A f l a b) (some (x + 8)) 1 10 = some (ii (f 10)) := gI_of (hp_8 ..) rfl
theorem gm11 (x : Nat) (F : Nat → Int) (P : Nat → Option Nat) (A : Nat → Int → Int) (f l : Nat → Int) (a : Nat → Int → Int) (b : fk_M) : gI (hp x F P A f l a b) (some (x + 8)) 1 11 = some (ii (f 11)) := gI_of (hp_8 ..) rfl
theorem gm13 (x : Nat) (F : Nat → Int) (P : Nat → Option Nat) (A : Nat → Int → Int) (f l : Nat → Int) (a : Nat → Int → Int) (b : fk_M) : gI (hp x F P A f l a b) (some (x + 8)) 1 13 = some (ii (f 13)) := gI_of (hp_8 ..) rfl
theorem gm14 (x : Nat) (F : Nat → Int) (P : Nat → Option Nat) (A : Nat → Int → Int) (f l : Nat → Int) (a : Nat → Int → Int) (b : fk_M) : gI (hp x F P A f l a b) (some (x + 8)) 1 14 = some (ii (f 14)) := gI_of (hp_8 ..) rfl
theorem gm22 (x : Nat) (F : Nat → Int) (P : Nat → Option Nat) (A : Nat → Int → Int) (f l : Nat → Int) (a : Nat → Int → Int) (b : fk_M) : gI (hp x F P A f l a b) (some (x + 8)) 1 22 = some (ii (f 22)) := gI_of (hp_8 ..) rfl
theorem gm23 (x : Nat) (F : Nat → Int) (P : Nat → Option Nat) (A : Nat → Int → Int) (f l : Nat → Int) (a : Nat → Int → Int) (b : fk_M) : gI (hp x F P A f l a b) (some (x + 8)) 1 23 = some (ii (f 23)) := gI_of (hp_8 ..) rfl
theorem gm26 (x : Nat) (F : Nat → Int) (P : Nat → Option Nat) (A : Nat → Int → Int) (f l : Nat → Int) (a : Nat → Int → Int) (b : fk_M) : gI (hp x F P A f l a b) (some (x + 8)) 1 26 = some (ii (f 26)) := gI_of (hp_8 ..) rfl
theorem gm27 (x : Nat) (F : Nat → Int) (P : Nat → Option Nat) (A : Nat → Int → Int) (f l : Nat → Int) (a : Nat → Int → Int) (b : fk_M) : gI (hp x F P A f l a b) (some (x + 8)) 1 27 = some (ii (f 27)) := gI_of (hp_8 ..) rfl
theorem gm28 (x : Nat) (F : Nat → Int) (P : Nat → Option Nat) (A : Nat → Int → Int) (f l : Nat → Int) (a : Nat → Int → Int) (b : fk_M) : gI (hp x F P A f l a b) (some (x + 8)) 1 28 = some (ii (f 28)) := gI_of (hp_8 ..) rfl
theorem gm29 (x : Nat) (F : Nat → Int) (P : Nat → Option Nat) (A : Nat → Int → Int) (f l : Nat → Int) (a : Nat → Int → Int) (b : fk_M) : gI (hp x F P A f l a b) (some (x + 8)) 1 29 = some (ii (f 29)) := gI_of (hp_8 ..) rfl
theorem gm31 (x : Nat) (F : Nat → Int) (P : Nat → Option Nat) (A : Nat → Int → Int) (f l : Nat → Int) (a : Nat → Int → Int) (b : fk_M) : gI (hp x F P A f l a b) (some (x + 8)) 1 31 = some (ii (f 31)) := gI_of (hp_8 ..) rfl
theorem gm32 (x : Nat) (F : Nat → Int) (P : Nat → Option Nat) (A : Nat → Int → Int) (f l : Nat → Int) (a : Nat → Int → Int) (b : fk_M) : gI (hp x F P A f l a b) (some (x + 8)) 1 32 = some (ii (f 32)) := gI_of (hp_8 ..) rfl
theorem gm33 (x : Nat) (F : Nat → Int) (P : Nat → Option Nat) (A : Nat → Int → Int) (f l : Nat → Int) (a : Nat → Int → Int) (b : fk_M) : gI (hp x F P A f l a b) (some (x + 8)) 1 33 = some (ii (f 33)) := gI_of (hp_8 ..) rfl
theorem gm36 (x : Nat) (F : Nat → Int) (P : Nat → Option Nat) (A : Nat → Int → Int) (f l : Nat → Int) (a : Nat → Int → Int) (b : fk_M) : gI (hp x F P A f l a b) (some (x + 8)) 1 36 = some (ii (f 36)) := gI_of (hp_8 ..) rfl
theorem gm37 (x : Nat) (F : Nat → Int) (P : Nat → Option Nat) (A : Nat → Int → Int) (f l : Nat → Int) (a : Nat → Int → Int) (b : fk_M) : gI (hp x F P A f l a b) (some (x + 8)) 1 37 = some (ii (f 37)) := gI_of (hp_8 ..) rfl
theorem gm39 (x : Nat) (F : Nat → Int) (P : Nat → Option Nat) (A : Nat → Int → Int) (f l : Nat → Int) (a : Nat → Int → Int) (b : fk_M) : gL (hp x F P A f l a b) (some (x + 8)) 1 39 = some (Int64.ofInt (l 39)) := gL_of (hp_8 ..) rfl
theorem gm40 (x : Nat) (F : Nat → Int) (P : Nat → Option Nat) (A : Nat → Int → Int) (f l : Nat → Int) (a : Nat → Int → Int) (b : fk_M) : gL (hp x F P A f l a b) (some (x + 8)) 1 40 = some (Int64.ofInt (l 40)) := gL_of (hp_8 ..) rfl
theorem gm41 (x : Nat) (F : Nat → Int) (P : Nat → Option Nat) (A : Nat → Int → Int) (f l : Nat → Int) (a : Nat → Int → Int) (b : fk_M) : gL (hp x F P A f l a b) (some (x + 8)) 1 41 = some (Int64.ofInt (l 41)) := gL_of (hp_8 ..) rfl
theorem gm1 (x : Nat) (F : Nat → Int) (P : Nat → Option Nat) (A : Nat → Int → Int) (f l : Nat → Int) (a : Nat → Int → Int) (b : fk_M) : gR (hp x F P A f l a b) (some (x + 8)) 1 1 = some (some (x + 9)) := gR_of (hp_8 ..) rfl
theorem gm12 (x : Nat) (F : Nat → Int) (P : Nat → Option Nat) (A : Nat → Int → Int) (f l : Nat → Int) (a : Nat → Int → Int) (b : fk_M) : gR (hp x F P A f l a b) (some (x + 8)) 1 12 = some (some (x + 10)) := gR_of (hp_8 ..) rfl
theorem gm15 (x : Nat) (F : Nat → Int) (P : Nat → Option Nat) (A : Nat → Int → Int) (f l : Nat → Int) (a : Nat → Int → Int) (b : fk_M) : gR (hp x F P A f l a b) (some (x + 8)) 1 15 = some (some (x + 11)) := gR_of (hp_8 ..) rfl
theorem gm16 (x : Nat) (F : Nat → Int) (P : Nat → Option Nat) (A : Nat → Int → Int) (f l : Nat → Int) (a : Nat → Int → Int) (b : fk_M) : gR (hp x F P A f l a b) (some (x + 8)) 1 16 = some (some (x + 12)) := gR_of (hp_8 ..) rfl
theorem gm17 (x : Nat) (F : Nat → Int) (P : Nat → Option Nat) (A : Nat → Int → Int) (f l : Nat → Int) (a : Nat → Int → Int) (b : fk_M) : gR (hp x F P A f l a b) (some (x + 8)) 1 17 = some (some (x + 13)) := gR_of (hp_8 ..) rfl
theorem gm18 (x : Nat) (F : Nat → Int) (P : Nat → Option Nat) (A : Nat → Int → Int) (f l : Nat → Int) (a : Nat → Int → Int) (b : fk_M) : gR (hp x F P A f l a b) (some (x + 8)) 1 18 = some (some (x + 14)) := gR_of (hp_8 ..) rfl
theorem gm19 (x : Nat) (F : Nat → Int) (P : Nat → Option Nat) (A : Nat → Int → Int) (f l : Nat → Int) (a : Nat → Int → Int) (b : fk_M) : gR (hp x F P A f l a b) (some (x + 8)) 1 19 = some (some (x + 15)) := gR_of (hp_8 ..) rfl
theorem gm20 (x : Nat) (F : Nat → Int) (P : Nat → Option Nat) (A : Nat → Int → Int) (f l : Nat → Int) (a : Nat → Int → Int) (b : fk_M) : gR (hp x F P A f l a b) (some (x + 8)) 1 20 = some (some (x + 16)) := gR_of (hp_8 ..) rfl
theorem gm21 (x : Nat) (F : Nat → Int) (P : Nat → Option Nat) (A : Nat → Int → Int) (f l : Nat → Int) (a : Nat → Int → Int) (b : fk_M) : gR (hp x F P A f l a b) (some (x + 8)) 1 21 = some (some (x + 17)) := gR_of (hp_8 ..) rfl
theorem gm24 (x : Nat) (F : Nat → Int) (P : Nat → Option Nat) (A : Nat → Int → Int) (f l : Nat → Int) (a : Nat → Int → Int) (b : fk_M) : gR (hp x F P A f l a b) (some (x + 8)) 1 24 = some (some (x + 18)) := gR_of (hp_8 ..) rfl
theorem gm25 (x : Nat) (F : Nat → Int) (P : Nat → Option Nat) (A : Nat → Int → Int) (f l : Nat → Int) (a : Nat → Int → Int) (b : fk_M) : gR (hp x F P A f l a b) (some (x + 8)) 1 25 = some (some (x + 19)) := gR_of (hp_8 ..) rfl
theorem gm30 (x : Nat) (F : Nat → Int) (P : Nat → Option Nat) (A : Nat → Int → Int) (f l : Nat → Int) (a : Nat → Int → Int) (b : fk_M) : gR (hp x F P A f l a b) (some (x + 8)) 1 30 = some (some (x + 20)) := gR_of (hp_8 ..) rfl
theorem gm34 (x : Nat) (F : Nat → Int) (P : Nat → Option Nat) (A : Nat → Int → Int) (f l : Nat → Int) (a : Nat → Int → Int) (b : fk_M) : gR (hp x F P A f l a b) (some (x + 8)) 1 34 = some (some (x + 21)) := gR_of (hp_8 ..) rfl
theorem gm35 (x : Nat) (F : Nat → Int) (P : Nat → Option Nat) (A : Nat → Int → Int) (f l : Nat → Int) (a : Nat → Int → Int) (b : fk_M) : gR (hp x F P A f l a b) (some (x + 8)) 1 35 = some (some (x + 22)) := gR_of (hp_8 ..) rfl
theorem gm38 (x : Nat) (F : Nat → Int) (P : Nat → Option Nat) (A : Nat → Int → Int) (f l : Nat → Int) (a : Nat → Int → Int) (b : fk_M) : gR (hp x F P A f l a b) (some (x + 8)) 1 38 = some (some (x + 23)) := gR_of (hp_8 ..) rfl
theorem rk0 (x : Nat) (F : Nat → Int) (P : Nat → Option Nat) (A : Nat → Int → Int) (f l : Nat → Int) (a : Nat → Int → Int) (b : fk_M) {i : Int} (h0 : 0 ≤ i) (h1 : i < 900) : aI (hp x F P A f l a b) (some (x + 1)) 1 (ii i) = some (ii (A 0 i)) := rkG x F P A f l a b 1 (by decide) h0 h1 (by omega)
theorem sk0 (x : Nat) (F : Nat → Int) (P : Nat → Option Nat) (A : Nat → Int → Int) (f l : Nat → Int) (a : Nat → Int → Int) (b : fk_M) {i : Int} (v : Int) (h0 : 0 ≤ i) (h1 : i < 900) (hv : -128 ≤ v) (hw : v ≤ 127) : sI (hp x F P A f l a b) (some (x + 1)) 1 (ii i) (ii v) = some (hp x F P (u2 A 0 i v) f l a b) := skG x F P A f l a b 1 (by decide) (ii v) v (ii_b hv hw) h0 h1 (by omega)
theorem rk9 (x : Nat) (F : Nat → Int) (P : Nat → Option Nat) (A : Nat → Int → Int) (f l : Nat → Int) (a : Nat → Int → Int) (b : fk_M) {i : Int} (h0 : 0 ≤ i) (h1 : i < 2710) : aI (hp x F P A f l a b) (some (x + 4)) 2 (ii i) = some (ii (A 9 i)) := rkG x F P A f l a b 4 (by decide) h0 h1 (by omega)
theorem sk9 (x : Nat) (F : Nat → Int) (P : Nat → Option Nat) (A : Nat → Int → Int) (f l : Nat → Int) (a : Nat → Int → Int) (b : fk_M) {i : Int} (v : Int) (h0 : 0 ≤ i) (h1 : i < 2710) (hv : -32768 ≤ v) (hw : v ≤ 32767) : sI (hp x F P A f l a b) (some (x + 4)) 2 (ii i) (ii v) = some (hp x F P (u2 A 9 i v) f l a b) := skG x F P A f l a b 4 (by decide) (ii v) v (ii_s hv hw) h0 h1 (by omega)
theorem rk16 (x : Nat) (F : Nat → Int) (P : Nat → Option Nat) (A : Nat → Int → Int) (f l : Nat → Int) (a : Nat → Int → Int) (b : fk_M) {i : Int} (h0 : 0 ≤ i) (h1 : i < 4) : aI (hp x F P A f l a b) (some (x + 5)) 0 (ii i) = some (ii (A 16 i)) := rkG x F P A f l a b 5 (by decide) h0 h1 (by omega)
theorem sk16 (x : Nat) (F : Nat → Int) (P : Nat → Option Nat) (A : Nat → Int → Int) (f l : Nat → Int) (a : Nat → Int → Int) (b : fk_M) {i : Int} (v : Int) (h0 : 0 ≤ i) (h1 : i < 4) : sI (hp x F P A f l a b) (some (x + 5)) 0 (ii i) (ii v) = some (hp x F P (u2 A 16 i v) f l a b) := skG x F P A f l a b 5 (by decide) (ii v) v rfl h0 h1 (by omega)
theorem rk18 (x : Nat) (F : Nat → Int) (P : Nat → Option Nat) (A : Nat → Int → Int) (f l : Nat → Int) (a : Nat → Int → Int) (b : fk_M) {i : Int} (h0 : 0 ≤ i) (h1 : i < 32) : aI (hp x F P A f l a b) (some (x + 6)) 0 (ii i) = some (ii (A 18 i)) := rkG x F P A f l a b 6 (by decide) h0 h1 (by omega)
theorem sk18 (x : Nat) (F : Nat → Int) (P : Nat → Option Nat) (A : Nat → Int → Int) (f l : Nat → Int) (a : Nat → Int → Int) (b : fk_M) {i : Int} (v : Int) (h0 : 0 ≤ i) (h1 : i < 32) : sI (hp x F P A f l a b) (some (x + 6)) 0 (ii i) (ii v) = some (hp x F P (u2 A 18 i v) f l a b) := skG x F P A f l a b 6 (by decide) (ii v) v rfl h0 h1 (by omega)
theorem rk19 (x : Nat) (F : Nat → Int) (P : Nat → Option Nat) (A : Nat → Int → Int) (f l : Nat → Int) (a : Nat → Int → Int) (b : fk_M) {i : Int} (h0 : 0 ≤ i) (h1 : i < 5) : aI (hp x F P A f l a b) (some (x + 7)) 0 (ii i) = some (ii (A 19 i)) := rkG x F P A f l a b 7 (by decide) h0 h1 (by omega)
theorem sk19 (x : Nat) (F : Nat → Int) (P : Nat → Option Nat) (A : Nat → Int → Int) (f l : Nat → Int) (a : Nat → Int → Int) (b : fk_M) {i : Int} (v : Int) (h0 : 0 ≤ i) (h1 : i < 5) : sI (hp x F P A f l a b) (some (x + 7)) 0 (ii i) (ii v) = some (hp x F P (u2 A 19 i v) f l a b) := skG x F P A f l a b 7 (by decide) (ii v) v rfl h0 h1 (by omega)
theorem rm1 (x : Nat) (F : Nat → Int) (P : Nat → Option Nat) (A : Nat → Int → Int) (f l : Nat → Int) (a : Nat → Int → Int) (b : fk_M) {i : Int} (h0 : 0 ≤ i) (h1 : i < 900) : aI (hp x F P A f l a b) (some (x + 9)) 0 (ii i) = some (ii (a 1 i)) := rmG x F P A f l a b 9 (by decide) (by decide) h0 h1 (by omega)
theorem sm1 (x : Nat) (F : Nat → Int) (P : Nat → Option Nat) (A : Nat → Int → Int) (f l : Nat → Int) (a : Nat → Int → Int) (b : fk_M) {i : Int} (v : Int) (h0 : 0 ≤ i) (h1 : i < 900) : sI (hp x F P A f l a b) (some (x + 9)) 0 (ii i) (ii v) = some (hp x F P A f l (u2 a 1 i v) b) := smG x F P A f l a b 9 (by decide) (by decide) v h0 h1 (by omega)
theorem rm12 (x : Nat) (F : Nat → Int) (P : Nat → Option Nat) (A : Nat → Int → Int) (f l : Nat → Int) (a : Nat → Int → Int) (b : fk_M) {i : Int} (h0 : 0 ≤ i) (h1 : i < 8) : aI (hp x F P A f l a b) (some (x + 10)) 0 (ii i) = some (ii (a 12 i)) := rmG x F P A f l a b 10 (by decide) (by decide) h0 h1 (by omega)
theorem sm12 (x : Nat) (F : Nat → Int) (P : Nat → Option Nat) (A : Nat → Int → Int) (f l : Nat → Int) (a : Nat → Int → Int) (b : fk_M) {i : Int} (v : Int) (h0 : 0 ≤ i) (h1 : i < 8) : sI (hp x F P A f l a b) (some (x + 10)) 0 (ii i) (ii v) = some (hp x F P A f l (u2 a 12 i v) b) := smG x F P A f l a b 10 (by decide) (by decide) v h0 h1 (by omega)
theorem rm15 (x : Nat) (F : Nat → Int) (P : Nat → Option Nat) (A : Nat → Int → Int) (f l : Nat → Int) (a : Nat → Int → Int) (b : fk_M) {i : Int} (h0 : 0 ≤ i) (h1 : i < 95) : aI (hp x F P A f l a b) (some (x + 11)) 0 (ii i) = some (ii (a 15 i)) := rmG x F P A f l a b 11 (by decide) (by decide) h0 h1 (by omega)
theorem sm15 (x : Nat) (F : Nat → Int) (P : Nat → Option Nat) (A : Nat → Int → Int) (f l : Nat → Int) (a : Nat → Int → Int) (b : fk_M) {i : Int} (v : Int) (h0 : 0 ≤ i) (h1 : i < 95) : sI (hp x F P A f l a b) (some (x + 11)) 0 (ii i) (ii v) = some (hp x F P A f l (u2 a 15 i v) b) := smG x F P A f l a b 11 (by decide) (by decide) v h0 h1 (by omega)
theorem rm16 (x : Nat) (F : Nat → Int) (P : Nat → Option Nat) (A : Nat → Int → Int) (f l : Nat → Int) (a : Nat → Int → Int) (b : fk_M) {i : Int} (h0 : 0 ≤ i) (h1 : i < 95) : aI (hp x F P A f l a b) (some (x + 12)) 0 (ii i) = some (ii (a 16 i)) := rmG x F P A f l a b 12 (by decide) (by decide) h0 h1 (by omega)
theorem sm16 (x : Nat) (F : Nat → Int) (P : Nat → Option Nat) (A : Nat → Int → Int) (f l : Nat → Int) (a : Nat → Int → Int) (b : fk_M) {i : Int} (v : Int) (h0 : 0 ≤ i) (h1 : i < 95) : sI (hp x F P A f l a b) (some (x + 12)) 0 (ii i) (ii v) = some (hp x F P A f l (u2 a 16 i v) b) := smG x F P A f l a b 12 (by decide) (by decide) v h0 h1 (by omega)
theorem rm17 (x : Nat) (F : Nat → Int) (P : Nat → Option Nat) (A : Nat → Int → Int) (f l : Nat → Int) (a : Nat → Int → Int) (b : fk_M) {i : Int} (h0 : 0 ≤ i) (h1 : i < 36) : aI (hp x F P A f l a b) (some (x + 13)) 0 (ii i) = some (ii (a 17 i)) := rmG x F P A f l a b 13 (by decide) (by decide) h0 h1 (by omega)
theorem sm17 (x : Nat) (F : Nat → Int) (P : Nat → Option Nat) (A : Nat → Int → Int) (f l : Nat → Int) (a : Nat → Int → Int) (b : fk_M) {i : Int} (v : Int) (h0 : 0 ≤ i) (h1 : i < 36) : sI (hp x F P A f l a b) (some (x + 13)) 0 (ii i) (ii v) = some (hp x F P A f l (u2 a 17 i v) b) := smG x F P A f l a b 13 (by decide) (by decide) v h0 h1 (by omega)
theorem rm18 (x : Nat) (F : Nat → Int) (P : Nat → Option Nat) (A : Nat → Int → Int) (f l : Nat → Int) (a : Nat → Int → Int) (b : fk_M) {i : Int} (h0 : 0 ≤ i) (h1 : i < 36) : aI (hp x F P A f l a b) (some (x + 14)) 0 (ii i) = some (ii (a 18 i)) := rmG x F P A f l a b 14 (by decide) (by decide) h0 h1 (by omega)
theorem sm18 (x : Nat) (F : Nat → Int) (P : Nat → Option Nat) (A : Nat → Int → Int) (f l : Nat → Int) (a : Nat → Int → Int) (b : fk_M) {i : Int} (v : Int) (h0 : 0 ≤ i) (h1 : i < 36) : sI (hp x F P A f l a b) (some (x + 14)) 0 (ii i) (ii v) = some (hp x F P A f l (u2 a 18 i v) b) := smG x F P A f l a b 14 (by decide) (by decide) v h0 h1 (by omega)
theorem rm19 (x : Nat) (F : Nat → Int) (P : Nat → Option Nat) (A : Nat → Int → Int) (f l : Nat → Int) (a : Nat → Int → Int) (b : fk_M) {i : Int} (h0 : 0 ≤ i) (h1 : i < 36) : aI (hp x F P A f l a b) (some (x + 15)) 0 (ii i) = some (ii (a 19 i)) := rmG x F P A f l a b 15 (by decide) (by decide) h0 h1 (by omega)
theorem sm19 (x : Nat) (F : Nat → Int) (P : Nat → Option Nat) (A : Nat → Int → Int) (f l : Nat → Int) (a : Nat → Int → Int) (b : fk_M) {i : Int} (v : Int) (h0 : 0 ≤ i) (h1 : i < 36) : sI (hp x F P A f l a b) (some (x + 15)) 0 (ii i) (ii v) = some (hp x F P A f l (u2 a 19 i v) b) := smG x F P A f l a b 15 (by decide) (by decide) v h0 h1 (by omega)
theorem rm20 (x : Nat) (F : Nat → Int) (P : Nat → Option Nat) (A : Nat → Int → Int) (f l : Nat → Int) (a : Nat → Int → Int) (b : fk_M) {i : Int} (h0 : 0 ≤ i) (h1 : i < 576) : aI (hp x F P A f l a b) (some (x + 16)) 0 (ii i) = some (ii (a 20 i)) := rmG x F P A f l a b 16 (by decide) (by decide) h0 h1 (by omega)
theorem sm20 (x : Nat) (F : Nat → Int) (P : Nat → Option Nat) (A : Nat → Int → Int) (f l : Nat → Int) (a : Nat → Int → Int) (b : fk_M) {i : Int} (v : Int) (h0 : 0 ≤ i) (h1 : i < 576) : sI (hp x F P A f l a b) (some (x + 16)) 0 (ii i) (ii v) = some (hp x F P A f l (u2 a 20 i v) b) := smG x F P A f l a b 16 (by decide) (by decide) v h0 h1 (by omega)
theorem rm21 (x : Nat) (F : Nat → Int) (P : Nat → Option Nat) (A : Nat → Int → Int) (f l : Nat → Int) (a : Nat → Int → Int) (b : fk_M) {i : Int} (h0 : 0 ≤ i) (h1 : i < 108) : aI (hp x F P A f l a b) (some (x + 17)) 0 (ii i) = some (ii (a 21 i)) := rmG x F P A f l a b 17 (by decide) (by decide) h0 h1 (by omega)
theorem sm21 (x : Nat) (F : Nat → Int) (P : Nat → Option Nat) (A : Nat → Int → Int) (f l : Nat → Int) (a : Nat → Int → Int) (b : fk_M) {i : Int} (v : Int) (h0 : 0 ≤ i) (h1 : i < 108) : sI (hp x F P A f l a b) (some (x + 17)) 0 (ii i) (ii v) = some (hp x F P A f l (u2 a 21 i v) b) := smG x F P A f l a b 17 (by decide) (by decide) v h0 h1 (by omega)
theorem rm24 (x : Nat) (F : Nat → Int) (P : Nat → Option Nat) (A : Nat → Int → Int) (f l : Nat → Int) (a : Nat → Int → Int) (b : fk_M) {i : Int} (h0 : 0 ≤ i) (h1 : i < 2600) : aI (hp x F P A f l a b) (some (x + 18)) 0 (ii i) = some (ii (a 24 i)) := rmG x F P A f l a b 18 (by decide) (by decide) h0 h1 (by omega)
theorem sm24 (x : Nat) (F : Nat → Int) (P : Nat → Option Nat) (A : Nat → Int → Int) (f l : Nat → Int) (a : Nat → Int → Int) (b : fk_M) {i : Int} (v : Int) (h0 : 0 ≤ i) (h1 : i < 2600) : sI (hp x F P A f l a b) (some (x + 18)) 0 (ii i) (ii v) = some (hp x F P A f l (u2 a 24 i v) b) := smG x F P A f l a b 18 (by decide) (by decide) v h0 h1 (by omega)
theorem rm25 (x : Nat) (F : Nat → Int) (P : Nat → Option Nat) (A : Nat → Int → Int) (f l : Nat → Int) (a : Nat → Int → Int) (b : fk_M) {i : Int} (h0 : 0 ≤ i) (h1 : i < 900) : aI (hp x F P A f l a b) (some (x + 19)) 0 (ii i) = some (ii (a 25 i)) := rmG x F P A f l a b 19 (by decide) (by decide) h0 h1 (by omega)
theorem sm25 (x : Nat) (F : Nat → Int) (P : Nat → Option Nat) (A : Nat → Int → Int) (f l : Nat → Int) (a : Nat → Int → Int) (b : fk_M) {i : Int} (v : Int) (h0 : 0 ≤ i) (h1 : i < 900) : sI (hp x F P A f l a b) (some (x + 19)) 0 (ii i) (ii v) = some (hp x F P A f l (u2 a 25 i v) b) := smG x F P A f l a b 19 (by decide) (by decide) v h0 h1 (by omega)
theorem rm30 (x : Nat) (F : Nat → Int) (P : Nat → Option Nat) (A : Nat → Int → Int) (f l : Nat → Int) (a : Nat → Int → Int) (b : fk_M) {i : Int} (h0 : 0 ≤ i) (h1 : i < 4) : aI (hp x F P A f l a b) (some (x + 20)) 0 (ii i) = some (ii (a 30 i)) := rmG x F P A f l a b 20 (by decide) (by decide) h0 h1 (by omega)
theorem sm30 (x : Nat) (F : Nat → Int) (P : Nat → Option Nat) (A : Nat → Int → Int) (f l : Nat → Int) (a : Nat → Int → Int) (b : fk_M) {i : Int} (v : Int) (h0 : 0 ≤ i) (h1 : i < 4) : sI (hp x F P A f l a b) (some (x + 20)) 0 (ii i) (ii v) = some (hp x F P A f l (u2 a 30 i v) b) := smG x F P A f l a b 20 (by decide) (by decide) v h0 h1 (by omega)
theorem rm34 (x : Nat) (F : Nat → Int) (P : Nat → Option Nat) (A : Nat → Int → Int) (f l : Nat → Int) (a : Nat → Int → Int) (b : fk_M) {i : Int} (h0 : 0 ≤ i) (h1 : i < 5) : aI (hp x F P A f l a b) (some (x + 21)) 0 (ii i) = some (ii (a 34 i)) := rmG x F P A f l a b 21 (by decide) (by decide) h0 h1 (by omega)
theorem sm34 (x : Nat) (F : Nat → Int) (P : Nat → Option Nat) (A : Nat → Int → Int) (f l : Nat → Int) (a : Nat → Int → Int) (b : fk_M) {i : Int} (v : Int) (h0 : 0 ≤ i) (h1 : i < 5) : sI (hp x F P A f l a b) (some (x + 21)) 0 (ii i) (ii v) = some (hp x F P A f l (u2 a 34 i v) b) := smG x F P A f l a b 21 (by decide) (by decide) v h0 h1 (by omega)
theorem rm35 (x : Nat) (F : Nat → Int) (P : Nat → Option Nat) (A : Nat → Int → Int) (f l : Nat → Int) (a : Nat → Int → Int) (b : fk_M) {i : Int} (h0 : 0 ≤ i) (h1 : i < 5) : aI (hp x F P A f l a b) (some (x + 22)) 0 (ii i) = some (ii (a 35 i)) := rmG x F P A f l a b 22 (by decide) (by decide) h0 h1 (by omega)
theorem sm35 (x : Nat) (F : Nat → Int) (P : Nat → Option Nat) (A : Nat → Int → Int) (f l : Nat → Int) (a : Nat → Int → Int) (b : fk_M) {i : Int} (v : Int) (h0 : 0 ≤ i) (h1 : i < 5) : sI (hp x F P A f l a b) (some (x + 22)) 0 (ii i) (ii v) = some (hp x F P A f l (u2 a 35 i v) b) := smG x F P A f l a b 22 (by decide) (by decide) v h0 h1 (by omega)
theorem rm38 (x : Nat) (F : Nat → Int) (P : Nat → Option Nat) (A : Nat → Int → Int) (f l : Nat → Int) (a : Nat → Int → Int) (b : fk_M) {i : Int} (h0 : 0 ≤ i) (h1 : i < 5) : aI (hp x F P A f l a b) (some (x + 23)) 0 (ii i) = some (ii (a 38 i)) := rmG x F P A f l a b 23 (by decide) (by decide) h0 h1 (by omega)
theorem sm38 (x : Nat) (F : Nat → Int) (P : Nat → Option Nat) (A : Nat → Int → Int) (f l : Nat → Int) (a : Nat → Int → Int) (b : fk_M) {i : Int} (v : Int) (h0 : 0 ≤ i) (h1 : i < 5) : sI (hp x F P A f l a b) (some (x + 23)) 0 (ii i) (ii v) = some (hp x F P A f l (u2 a 38 i v) b) := smG x F P A f l a b 23 (by decide) (by decide) v h0 h1 (by omega)
theorem pk1 (x : Nat) (F : Nat → Int) (P : Nat → Option Nat) (A : Nat → Int → Int) (f l : Nat → Int) (a : Nat → Int → Int) (b : fk_M) (v : Int) : pV (hp x F P A f l a b) (some x) 0 1 (tI (ii v)) = some (hp x (u1 F 1 v) P A f l a b) := pkI x F P A f l a b 1 v rfl (by decide)
theorem pk2 (x : Nat) (F : Nat → Int) (P : Nat → Option Nat) (A : Nat → Int → Int) (f l : Nat → Int) (a : Nat → Int → Int) (b : fk_M) (v : Int) : pV (hp x F P A f l a b) (some x) 0 2 (tI (ii v)) = some (hp x (u1 F 2 v) P A f l a b) := pkI x F P A f l a b 2 v rfl (by decide)
theorem pk3 (x : Nat) (F : Nat → Int) (P : Nat → Option Nat) (A : Nat → Int → Int) (f l : Nat → Int) (a : Nat → Int → Int) (b : fk_M) (v : Int) : pV (hp x F P A f l a b) (some x) 0 3 (tI (ii v)) = some (hp x (u1 F 3 v) P A f l a b) := pkI x F P A f l a b 3 v rfl (by decide)
theorem pk4 (x : Nat) (F : Nat → Int) (P : Nat → Option Nat) (A : Nat → Int → Int) (f l : Nat → Int) (a : Nat → Int → Int) (b : fk_M) (v : Int) : pV (hp x F P A f l a b) (some x) 0 4 (tI (ii v)) = some (hp x (u1 F 4 v) P A f l a b) := pkI x F P A f l a b 4 v rfl (by decide)
theorem pk10 (x : Nat) (F : Nat → Int) (P : Nat → Option Nat) (A : Nat → Int → Int) (f l : Nat → Int) (a : Nat → Int → Int) (b : fk_M) (v : Int) : pV (hp x F P A f l a b) (some x) 0 10 (tI (ii v)) = some (hp x (u1 F 10 v) P A f l a b) := pkI x F P A f l a b 10 v rfl (by decide)
theorem pk11 (x : Nat) (F : Nat → Int) (P : Nat → Option Nat) (A : Nat → Int → Int) (f l : Nat → Int) (a : Nat → Int → Int) (b : fk_M) (v : Int) : pV (hp x F P A f l a b) (some x) 0 11 (tI (ii v)) = some (hp x (u1 F 11 v) P A f l a b) := pkI x F P A f l a b 11 v rfl (by decide)
theorem pk12 (x : Nat) (F : Nat → Int) (P : Nat → Option Nat) (A : Nat → Int → Int) (f l : Nat → Int) (a : Nat → Int → Int) (b : fk_M) (v : Int) : pV (hp x F P A f l a b) (some x) 0 12 (tI (ii v)) = some (hp x (u1 F 12 v) P A f l a b) := pkI x F P A f l a b 12 v rfl (by decide)
theorem pk13 (x : Nat) (F : Nat → Int) (P : Nat → Option Nat) (A : Nat → Int → Int) (f l : Nat → Int) (a : Nat → Int → Int) (b : fk_M) (v : Int) : pV (hp x F P A f l a b) (some x) 0 13 (tI (ii v)) = some (hp x (u1 F 13 v) P A f l a b) := pkI x F P A f l a b 13 v rfl (by decide)
theorem pk14 (x : Nat) (F : Nat → Int) (P : Nat → Option Nat) (A : Nat → Int → Int) (f l : Nat → Int) (a : Nat → Int → Int) (b : fk_M) (v : Int) : pV (hp x F P A f l a b) (some x) 0 14 (tI (ii v)) = some (hp x (u1 F 14 v) P A f l a b) := pkI x F P A f l a b 14 v rfl (by decide)
theorem pk15 (x : Nat) (F : Nat → Int) (P : Nat → Option Nat) (A : Nat → Int → Int) (f l : Nat → Int) (a : Nat → Int → Int) (b : fk_M) (v : Int) : pV (hp x F P A f l a b) (some x) 0 15 (tI (ii v)) = some (hp x (u1 F 15 v) P A f l a b) := pkI x F P A f l a b 15 v rfl (by decide)
theorem pk17 (x : Nat) (F : Nat → Int) (P : Nat → Option Nat) (A : Nat → Int → Int) (f l : Nat → Int) (a : Nat → Int → Int) (b : fk_M) (v : Int) : pV (hp x F P A f l a b) (some x) 0 17 (tI (ii v)) = some (hp x (u1 F 17 v) P A f l a b) := pkI x F P A f l a b 17 v rfl (by decide)
theorem pkr5 (x : Nat) (F : Nat → Int) (P : Nat → Option Nat) (A : Nat → Int → Int) (f l : Nat → Int) (a : Nat → Int → Int) (b : fk_M) (v : Option Nat) : pV (hp x F P A f l a b) (some x) 0 5 (tR v) = some (hp x F (uP P 5 v) A f l a b) := pkR x F P A f l a b 5 v rfl (by decide)
theorem pkr6 (x : Nat) (F : Nat → Int) (P : Nat → Option Nat) (A : Nat → Int → Int) (f l : Nat → Int) (a : Nat → Int → Int) (b : fk_M) (v : Option Nat) : pV (hp x F P A f l a b) (some x) 0 6 (tR v) = some (hp x F (uP P 6 v) A f l a b) := pkR x F P A f l a b 6 v rfl (by decide)
theorem pm0 (x : Nat) (F : Nat → Int) (P : Nat → Option Nat) (A : Nat → Int → Int) (f l : Nat → Int) (a : Nat → Int → Int) (b : fk_M) (v : Int) : pV (hp x F P A f l a b) (some (x + 8)) 1 0 (tI (ii v)) = some (hp x F P A (u1 f 0 v) l a b) := pmI x F P A f l a b 0 v rfl
theorem pm2 (x : Nat) (F : Nat → Int) (P : Nat → Option Nat) (A : Nat → Int → Int) (f l : Nat → Int) (a : Nat → Int → Int) (b : fk_M) (v : Int) : pV (hp x F P A f l a b) (some (x + 8)) 1 2 (tI (ii v)) = some (hp x F P A (u1 f 2 v) l a b) := pmI x F P A f l a b 2 v rfl
theorem pm3 (x : Nat) (F : Nat → Int) (P : Nat → Option Nat) (A : Nat → Int → Int) (f l : Nat → Int) (a : Nat → Int → Int) (b : fk_M) (v : Int) : pV (hp x F P A f l a b) (some (x + 8)) 1 3 (tI (ii v)) = some (hp x F P A (u1 f 3 v) l a b) := pmI x F P A f l a b 3 v rfl
theorem pm4 (x : Nat) (F : Nat → Int) (P : Nat → Option Nat) (A : Nat → Int → Int) (f l : Nat → Int) (a : Nat → Int → Int) (b : fk_M) (v : Int) : pV (hp x F P A f l a b) (some (x + 8)) 1 4 (tI (ii v)) = some (hp x F P A (u1 f 4 v) l a b) := pmI x F P A f l a b 4 v rfl
theorem pm5 (x : Nat) (F : Nat → Int) (P : Nat → Option Nat) (A : Nat → Int → Int) (f l : Nat → Int) (a : Nat → Int → Int) (b : fk_M) (v : Int) : pV (hp x F P A f l a b) (some (x + 8)) 1 5 (tI (ii v)) = some (hp x F P A (u1 f 5 v) l a b) := pmI x F P A f l a b 5 v rfl
theorem pm6 (x : Nat) (F : Nat → Int) (P : Nat → Option Nat) (A : Nat → Int → Int) (f l : Nat → Int) (a : Nat → Int → Int) (b : fk_M) (v : Int) : pV (hp x F P A f l a b) (some (x + 8)) 1 6 (tI (ii v)) = some (hp x F P A (u1 f 6 v) l a b) := pmI x F P A f l a b 6 v rfl
theorem pm7 (x : Nat) (F : Nat → Int) (P : Nat → Option Nat) (A : Nat → Int → Int) (f l : Nat → Int) (a : Nat → Int → Int) (b : fk_M) (v : Int) : pV (hp x F P A f l a b) (some (x + 8)) 1 7 (tI (ii v)) = some (hp x F P A (u1 f 7 v) l a b) := pmI x F P A f l a b 7 v rfl
theorem pm8 (x : Nat) (F : Nat → Int) (P : Nat → Option Nat) (A : Nat → Int → Int) (f l : Nat → Int) (a : Nat → Int → Int) (b : fk_M) (v : Int) : pV (hp x F P A f l a b) (some (x + 8)) 1 8 (tI (ii v)) = some (hp x F P A (u1 f 8 v) l a b) := pmI x F P A f l a b 8 v rfl
theorem pm9 (x : Nat) (F : Nat → Int) (P : Nat → Option Nat) (A : Nat → Int → Int) (f l : Nat → Int) (a : Nat → Int → Int) (b : fk_M) (v : Int) : pV (hp x F P A f l a b) (some (x + 8)) 1 9 (tI (ii v)) = some (hp x F P A (u1 f 9 v) l a b) := pmI x F P A f l a b 9 v rfl
theorem pm10 (x : Nat) (F : Nat → Int) (P : Nat → Option Nat) (A : Nat → Int → Int) (f l : Nat → Int) (a : Nat → Int → Int) (b : fk_M) (v : Int) : pV (hp x F P A f l a b) (some (x + 8)) 1 10 (tI (ii v)) = some (hp x F P A (u1 f 10 v) l a b) := pmI x F P A f l a b 10 v rfl
theorem pm11 (x : Nat) (F : Nat → Int) (P : Nat → Option Nat) (A : Nat → Int → Int) (f l : Nat → Int) (a : Nat → Int → Int) (b : fk_M) (v : Int) : pV (hp x F P A f l a b) (some (x + 8)) 1 11 (tI (ii v)) = some (hp x F P A (u1 f 11 v) l a b) := pmI x F P A f l a b 11 v rfl
theorem pm13 (x : Nat) (F : Nat → Int) (P : Nat → Option Nat) (A : Nat → Int → Int) (f l : Nat → Int) (a : Nat → Int → Int) (b : fk_M) (v : Int) : pV (hp x F P A f l a b) (some (x + 8)) 1 13 (tI (ii v)) = some (hp x F P A (u1 f 13 v) l a b) := pmI x F P A f l a b 13 v rfl
theorem pz13_0 (x : Nat) (F : Nat → Int) (P : Nat → Option Nat) (A : Nat → Int → Int) (f l : Nat → Int) (a : Nat → Int → Int) (b : fk_M) : pZ (hp x F P A f l a b) (some (x + 8)) 1 13 (ii 0) = some (hp x F P A (u1 f 13 0) l a b) := pmI x F P A f l a b 13 0 rfl
theorem pz13_1 (x : Nat) (F : Nat → Int) (P : Nat → Option Nat) (A : Nat → Int → Int) (f l : Nat → Int) (a : Nat → Int → Int) (b : fk_M) : pZ (hp x F P A f l a b) (some (x + 8)) 1 13 (ii 1) = some (hp x F P A (u1 f 13 1) l a b) := pmI x F P A f l a b 13 1 rfl
theorem pm14 (x : Nat) (F : Nat → Int) (P : Nat → Option Nat) (A : Nat → Int → Int) (f l : Nat → Int) (a : Nat → Int → Int) (b : fk_M) (v : Int) : pV (hp x F P A f l a b) (some (x + 8)) 1 14 (tI (ii v)) = some (hp x F P A (u1 f 14 v) l a b) := pmI x F P A f l a b 14 v rfl
theorem pz14_0 (x : Nat) (F : Nat → Int) (P : Nat → Option Nat) (A : Nat → Int → Int) (f l : Nat → Int) (a : Nat → Int → Int) (b : fk_M) : pZ (hp x F P A f l a b) (some (x + 8)) 1 14 (ii 0) = some (hp x F P A (u1 f 14 0) l a b) := pmI x F P A f l a b 14 0 rfl
theorem pz14_1 (x : Nat) (F : Nat → Int) (P : Nat → Option Nat) (A : Nat → Int → Int) (f l : Nat → Int) (a : Nat → Int → Int) (b : fk_M) : pZ (hp x F P A f l a b) (some (x + 8)) 1 14 (ii 1) = some (hp x F P A (u1 f 14 1) l a b) := pmI x F P A f l a b 14 1 rfl
theorem pm22 (x : Nat) (F : Nat → Int) (P : Nat → Option Nat) (A : Nat → Int → Int) (f l : Nat → Int) (a : Nat → Int → Int) (b : fk_M) (v : Int) : pV (hp x F P A f l a b) (some (x + 8)) 1 22 (tI (ii v)) = some (hp x F P A (u1 f 22 v) l a b) := pmI x F P A f l a b 22 v rfl
theorem pm23 (x : Nat) (F : Nat → Int) (P : Nat → Option Nat) (A : Nat → Int → Int) (f l : Nat → Int) (a : Nat → Int → Int) (b : fk_M) (v : Int) : pV (hp x F P A f l a b) (some (x + 8)) 1 23 (tI (ii v)) = some (hp x F P A (u1 f 23 v) l a b) := pmI x F P A f l a b 23 v rfl
theorem pm26 (x : Nat) (F : Nat → Int) (P : Nat → Option Nat) (A : Nat → Int → Int) (f l : Nat → Int) (a : Nat → Int → Int) (b : fk_M) (v : Int) : pV (hp x F P A f l a b) (some (x + 8)) 1 26 (tI (ii v)) = some (hp x F P A (u1 f 26 v) l a b) := pmI x F P A f l a b 26 v rfl
theorem pm27 (x : Nat) (F : Nat → Int) (P : Nat → Option Nat) (A : Nat → Int → Int) (f l : Nat → Int) (a : Nat → Int → Int) (b : fk_M) (v : Int) : pV (hp x F P A f l a b) (some (x + 8)) 1 27 (tI (ii v)) = some (hp x F P A (u1 f 27 v) l a b) := pmI x F P A f l a b 27 v rfl
theorem pm28 (x : Nat) (F : Nat → Int) (P : Nat → Option Nat) (A : Nat → Int → Int) (f l : Nat → Int) (a : Nat → Int → Int) (b : fk_M) (v : Int) : pV (hp x F P A f l a b) (some (x + 8)) 1 28 (tI (ii v)) = some (hp x F P A (u1 f 28 v) l a b) := pmI x F P A f l a b 28 v rfl
theorem pm29 (x : Nat) (F : Nat → Int) (P : Nat → Option Nat) (A : Nat → Int → Int) (f l : Nat → Int) (a : Nat → Int → Int) (b : fk_M) (v : Int) : pV (hp x F P A f l a b) (some (x + 8)) 1 29 (tI (ii v)) = some (hp x F P A (u1 f 29 v) l a b) := pmI x F P A f l a b 29 v rfl
theorem pm31 (x : Nat) (F : Nat → Int) (P : Nat → Option Nat) (A : Nat → Int → Int) (f l : Nat → Int) (a : Nat → Int → Int) (b : fk_M) (v : Int) : pV (hp x F P A f l a b) (some (x + 8)) 1 31 (tI (ii v)) = some (hp x F P A (u1 f 31 v) l a b) := pmI x F P A f l a b 31 v rfl
theorem pm32 (x : Nat) (F : Nat → Int) (P : Nat → Option Nat) (A : Nat → Int → Int) (f l : Nat → Int) (a : Nat → Int → Int) (b : fk_M) (v : Int) : pV (hp x F P A f l a b) (some (x + 8)) 1 32 (tI (ii v)) = some (hp x F P A (u1 f 32 v) l a b) := pmI x F P A f l a b 32 v rfl
theorem pm33 (x : Nat) (F : Nat → Int) (P : Nat → Option Nat) (A : Nat → Int → Int) (f l : Nat → Int) (a : Nat → Int → Int) (b : fk_M) (v : Int) : pV (hp x F P A f l a b) (some (x + 8)) 1 33 (tI (ii v)) = some (hp x F P A (u1 f 33 v) l a b) := pmI x F P A f l a b 33 v rfl
theorem pm36 (x : Nat) (F : Nat → Int) (P : Nat → Option Nat) (A : Nat → Int → Int) (f l : Nat → Int) (a : Nat → Int → Int) (b : fk_M) (v : Int) : pV (hp x F P A f l a b) (some (x + 8)) 1 36 (tI (ii v)) = some (hp x F P A (u1 f 36 v) l a b) := pmI x F P A f l a b 36 v rfl
theorem pm37 (x : Nat) (F : Nat → Int) (P : Nat → Option Nat) (A : Nat → Int → Int) (f l : Nat → Int) (a : Nat → Int → Int) (b : fk_M) (v : Int) : pV (hp x F P A f l a b) (some (x + 8)) 1 37 (tI (ii v)) = some (hp x F P A (u1 f 37 v) l a b) := pmI x F P A f l a b 37 v rfl
theorem pm39 (x : Nat) (F : Nat → Int) (P : Nat → Option Nat) (A : Nat → Int → Int) (f l : Nat → Int) (a : Nat → Int → Int) (b : fk_M) (v : Int) : pV (hp x F P A f l a b) (some (x + 8)) 1 39 (tL (Int64.ofInt v)) = some (hp x F P A f (u1 l 39 v) a b) := pmL x F P A f l a b 39 v rfl
theorem pm40 (x : Nat) (F : Nat → Int) (P : Nat → Option Nat) (A : Nat → Int → Int) (f l : Nat → Int) (a : Nat → Int → Int) (b : fk_M) (v : Int) : pV (hp x F P A f l a b) (some (x + 8)) 1 40 (tL (Int64.ofInt v)) = some (hp x F P A f (u1 l 40 v) a b) := pmL x F P A f l a b 40 v rfl
theorem pm41 (x : Nat) (F : Nat → Int) (P : Nat → Option Nat) (A : Nat → Int → Int) (f l : Nat → Int) (a : Nat → Int → Int) (b : fk_M) (v : Int) : pV (hp x F P A f l a b) (some (x + 8)) 1 41 (tL (Int64.ofInt v)) = some (hp x F P A f (u1 l 41 v) a b) := pmL x F P A f l a b 41 v rfl
theorem pl2_0 (x : Nat) (F : Nat → Int) (P : Nat → Option Nat) (A : Nat → Int → Int) (f l : Nat → Int) (a : Nat → Int → Int) (b : fk_M) (v : Int) : pV (hp x F P A f l a b) (some (x + 2)) 14 0 (tI (ii v)) = some (hp x (u1 F 100 v) P A f l a b) := by
  rw [pV_of 0 (tI (ii v)) (hp_2 ..), lV_0]
  exact congrArg some (hp_up 2 (hp_2 ..) (fun j hj hne => hp_cells j hj (fun _ => kV_F (fun k hk => u1_ne _ _ (by omega)) (fun _ _ => rfl)) (fun e => absurd e hne) (fun _ => lV_F (u1_ne _ _ (by omega)) rfl (u1_ne _ _ (by omega))) (fun _ => rfl) (fun _ => rfl) (fun _ => rfl)) (by omega))
theorem pl2_1 (x : Nat) (F : Nat → Int) (P : Nat → Option Nat) (A : Nat → Int → Int) (f l : Nat → Int) (a : Nat → Int → Int) (b : fk_M) (v : Option Nat) : pV (hp x F P A f l a b) (some (x + 2)) 14 1 (tR v) = some (hp x F (uP P 100 v) A f l a b) := by
  rw [pV_of 1 (tR v) (hp_2 ..), lV_1]
  exact congrArg some (hp_up 2 (hp_2 ..) (fun j hj hne => hp_cells j hj (fun _ => kV_F (fun _ _ => rfl) (fun k hk => uP_ne _ _ (by omega))) (fun e => absurd e hne) (fun _ => lV_F rfl (uP_ne _ _ (by omega)) rfl) (fun _ => rfl) (fun _ => rfl) (fun _ => rfl)) (by omega))
theorem pl2_2 (x : Nat) (F : Nat → Int) (P : Nat → Option Nat) (A : Nat → Int → Int) (f l : Nat → Int) (a : Nat → Int → Int) (b : fk_M) (v : Int) : pV (hp x F P A f l a b) (some (x + 2)) 14 2 (tI (ii v)) = some (hp x (u1 F 101 v) P A f l a b) := by
  rw [pV_of 2 (tI (ii v)) (hp_2 ..), lV_2]
  exact congrArg some (hp_up 2 (hp_2 ..) (fun j hj hne => hp_cells j hj (fun _ => kV_F (fun k hk => u1_ne _ _ (by omega)) (fun _ _ => rfl)) (fun e => absurd e hne) (fun _ => lV_F (u1_ne _ _ (by omega)) rfl (u1_ne _ _ (by omega))) (fun _ => rfl) (fun _ => rfl) (fun _ => rfl)) (by omega))
theorem pl3_0 (x : Nat) (F : Nat → Int) (P : Nat → Option Nat) (A : Nat → Int → Int) (f l : Nat → Int) (a : Nat → Int → Int) (b : fk_M) (v : Int) : pV (hp x F P A f l a b) (some (x + 3)) 14 0 (tI (ii v)) = some (hp x (u1 F 110 v) P A f l a b) := by
  rw [pV_of 0 (tI (ii v)) (hp_3 ..), lV_0]
  exact congrArg some (hp_up 3 (hp_3 ..) (fun j hj hne => hp_cells j hj (fun _ => kV_F (fun k hk => u1_ne _ _ (by omega)) (fun _ _ => rfl)) (fun _ => lV_F (u1_ne _ _ (by omega)) rfl (u1_ne _ _ (by omega))) (fun e => absurd e hne) (fun _ => rfl) (fun _ => rfl) (fun _ => rfl)) (by omega))
theorem pl3_1 (x : Nat) (F : Nat → Int) (P : Nat → Option Nat) (A : Nat → Int → Int) (f l : Nat → Int) (a : Nat → Int → Int) (b : fk_M) (v : Option Nat) : pV (hp x F P A f l a b) (some (x + 3)) 14 1 (tR v) = some (hp x F (uP P 110 v) A f l a b) := by
  rw [pV_of 1 (tR v) (hp_3 ..), lV_1]
  exact congrArg some (hp_up 3 (hp_3 ..) (fun j hj hne => hp_cells j hj (fun _ => kV_F (fun _ _ => rfl) (fun k hk => uP_ne _ _ (by omega))) (fun _ => lV_F rfl (uP_ne _ _ (by omega)) rfl) (fun e => absurd e hne) (fun _ => rfl) (fun _ => rfl) (fun _ => rfl)) (by omega))
theorem pl3_2 (x : Nat) (F : Nat → Int) (P : Nat → Option Nat) (A : Nat → Int → Int) (f l : Nat → Int) (a : Nat → Int → Int) (b : fk_M) (v : Int) : pV (hp x F P A f l a b) (some (x + 3)) 14 2 (tI (ii v)) = some (hp x (u1 F 111 v) P A f l a b) := by
  rw [pV_of 2 (tI (ii v)) (hp_3 ..), lV_2]
  exact congrArg some (hp_up 3 (hp_3 ..) (fun j hj hne => hp_cells j hj (fun _ => kV_F (fun k hk => u1_ne _ _ (by omega)) (fun _ _ => rfl)) (fun _ => lV_F (u1_ne _ _ (by omega)) rfl (u1_ne _ _ (by omega))) (fun e => absurd e hne) (fun _ => rfl) (fun _ => rfl) (fun _ => rfl)) (by omega))
theorem gI_out (x : Nat) (F : Nat → Int) (P : Nat → Option Nat) (A : Nat → Int → Int) (f l : Nat → Int) (a : Nat → Int → Int) (b : fk_M) {q : Nat} (h : q < x ∨ x + 24 ≤ q) (ci k : Nat) : gI (hp x F P A f l a b) (some q) ci k = gI b (some q) ci k := gI_cg (hp_out _ _ _ _ _ _ _ _ h) _ _
theorem gR_out (x : Nat) (F : Nat → Int) (P : Nat → Option Nat) (A : Nat → Int → Int) (f l : Nat → Int) (a : Nat → Int → Int) (b : fk_M) {q : Nat} (h : q < x ∨ x + 24 ≤ q) (ci k : Nat) : gR (hp x F P A f l a b) (some q) ci k = gR b (some q) ci k := gR_cg (hp_out _ _ _ _ _ _ _ _ h) _ _
theorem isO_out (x : Nat) (F : Nat → Int) (P : Nat → Option Nat) (A : Nat → Int → Int) (f l : Nat → Int) (a : Nat → Int → Int) (b : fk_M) {q : Nat} (h : q < x ∨ x + 24 ≤ q) (ci : Nat) : isO (hp x F P A f l a b) (some q) ci = isO b (some q) ci := isO_cg (hp_out _ _ _ _ _ _ _ _ h) _
theorem aI_out (x : Nat) (F : Nat → Int) (P : Nat → Option Nat) (A : Nat → Int → Int) (f l : Nat → Int) (a : Nat → Int → Int) (b : fk_M) {q : Nat} (h : q < x ∨ x + 24 ≤ q) (t : Nat) (i : Int32) : aI (hp x F P A f l a b) (some q) t i = aI b (some q) t i := aI_cg (hp_out _ _ _ _ _ _ _ _ h) _ _
theorem aR_out (x : Nat) (F : Nat → Int) (P : Nat → Option Nat) (A : Nat → Int → Int) (f l : Nat → Int) (a : Nat → Int → Int) (b : fk_M) {q : Nat} (h : q < x ∨ x + 24 ≤ q) (i : Int32) : aR (hp x F P A f l a b) (some q) i = aR b (some q) i := aR_cg (hp_out _ _ _ _ _ _ _ _ h) _
theorem aLn_out (x : Nat) (F : Nat → Int) (P : Nat → Option Nat) (A : Nat → Int → Int) (f l : Nat → Int) (a : Nat → Int → Int) (b : fk_M) {q : Nat} (h : q < x ∨ x + 24 ≤ q) : aLn (hp x F P A f l a b) (some q)  = aLn b (some q)  := aLn_cg (hp_out _ _ _ _ _ _ _ _ h) 
