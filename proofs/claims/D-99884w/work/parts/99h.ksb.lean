/-! PLAIN 51: the component's tokens: building a word -/
set_option maxRecDepth 100000
theorem z_ib : ∀ k : Fin 128, i_b (ii (k.val : Int)) = ii (k.val : Int) := by decide +kernel
theorem ii_b7 {v : Int} (h0 : 0 ≤ v) (h1 : v ≤ 127) : i_b (ii v) = ii v := by
  obtain ⟨k, rfl⟩ : ∃ k : Nat, v = k := ⟨v.toNat, by omega⟩
  exact z_ib ⟨k, by omega⟩
theorem shr0 (z : Int32) : i_shr z 0 = z := by
  apply Int32.toBitVec_inj.mp
  show z.toBitVec.sshiftRight' _ = _
  exact BitVec.sshiftRight_zero
/-- a StringBuilder's cells -/
def SB (m : fk_M) (N k : Nat) (T : Int → Int) (p : Int) : Prop := ∃ W G, m N = some (true, oB 15 W) ∧ W 0 = tR (some (N + 1)) ∧ W 1 = tI 0 ∧ W 3 = tI (ii k) ∧ m (N + 1) = some (true, aN 1 16 G) ∧ ∀ i : Nat, i < k → G i = ii (T (p + (i : Int)))
theorem SB.cg {m m' : fk_M} {N k : Nat} {T : Int → Int} {p : Int} (h : SB m N k T p) (h1 : m' N = m N) (h2 : m' (N + 1) = m (N + 1)) : SB m' N k T p := by
  obtain ⟨W, G, g1, g2, g3, g4, g5, g6⟩ := h
  exact ⟨W, G, h1.trans g1, g2, g3, g4, h2.trans g5, g6⟩
theorem SB.o {m : fk_M} {N k : Nat} {T : Int → Int} {p : Int} (h : SB m N k T p) : isO m (some N) 15 = some () := by
  obtain ⟨W, G, g1, -⟩ := h
  exact isO_of g1
theorem k_app {m : fk_M} {N k : Nat} {T : Int → Int} {p c : Int} (h : SB m N k T p) (hk : k < 16) (hc : c = T (p + (k : Int))) (hr : 97 ≤ c ∧ c ≤ 122) : ∃ m', f_J4_append (some N) (i_c (ii c)) m = some (some N, m') ∧ SB m' N (k + 1) T p ∧ ∀ q, q ≠ N → q ≠ N + 1 → m' q = m q := by
  obtain ⟨W, G, g1, g2, g3, g4, g5, g6⟩ := h
  have e1 : f_J3_ensureCapacityInternal (some N) (ii (k : Int) + 1) m = some () := by
    unfold f_J3_ensureCapacityInternal
    rw [gR_of g1 g2, Option.bind_some, aLn_ofI g5, Option.bind_some, gI_of g1 g3, Option.bind_some, shr0, show (1 : Int32) = ii 1 from rfl, ii_add, ii_sub, if_pos (by rw [show (0 : Int32) = ii 0 from rfl, ii_le (by omega) (by omega)]; omega)]
  have e2 : f_J3_isLatin1 (some N) m = some 1 := by
    unfold f_J3_isLatin1
    rw [gI_of g1 g3, Option.bind_some, if_pos rfl]
  have e3 : f_J10_canEncode (ii c) m = some 1 := by
    unfold f_J10_canEncode
    rw [if_neg (by rw [show (255 : Int32) = ii 255 from rfl, ii_lt (by omega) (by omega)]; omega)]
  have k5 : fk_up m N (oB 15 (fk_set W 3 (tI (ii ((k : Int) + 1))))) (N + 1) = some (true, aN 1 16 G) := (up_ne _ _ (by omega)).trans g5
  refine ⟨fk_up (fk_up m N (oB 15 (fk_set W 3 (tI (ii ((k : Int) + 1)))))) (N + 1) (aN 1 16 (upd G k (fk_nr 1 (ii c)))), ?_, ⟨fk_set W 3 (tI (ii ((k : Int) + 1))), upd G k (fk_nr 1 (ii c)), ?_, g2, g3, rfl, up_eq .., fun i hi => ?_⟩, fun q q1 q2 => (up_ne _ _ q2).trans (up_ne _ _ q1)⟩
  · unfold f_J4_append f_J3_append
    rw [isO_of g1, Option.bind_some, gI_of g1 g4, Option.bind_some, Option.bind_some, ii_c (by omega) (by omega), e1, Option.bind_some, Option.bind_some, e2, Option.bind_some, if_neg (show ¬ (1 : Int32) = 0 by decide), e3, Option.bind_some, if_neg (show ¬ (1 : Int32) = 0 by decide), gR_of g1 g2, Option.bind_some, Option.bind_some, show (1 : Int32) = ii 1 from rfl, ii_add, pV_of 3 _ g1, Option.bind_some, ii_b7 (by omega) (by omega), sI_of _ k5 (by omega) (by omega) (by omega), Option.bind_some, bn2_some]
    rfl
  · exact (up_ne _ _ (by omega)).trans (up_eq ..)
  · unfold upd
    by_cases hik : i = k
    · rw [if_pos hik, hik, ← hc]
      show i_b (ii c) = ii c
      exact ii_b7 (by omega) (by omega)
    · rw [if_neg hik]
      exact g6 i (by omega)
theorem k_str {m : fk_M} {N S len : Nat} {T : Int → Int} {p : Int} (h : SB m N len T p) (hl : len ≤ 8) (hS : N + 1 < S) (kk : Nat) : ∃ m', f_J4_toString (some N) S kk m = some (some S, S + 2, kk + 4 + len, m') ∧ (∀ w : List Int, w.length = len → (∀ i : Nat, i < len → w.getD i 0 = T (p + (i : Int))) → StC m' S w) ∧ ∀ q, q ≠ S → q ≠ S + 1 → m' q = m q := by
  obtain ⟨W, G, g1, g2, g3, g4, g5, g6⟩ := h
  obtain ⟨V, hV⟩ : ∃ V, V = fk_V0 tyJ5 := ⟨_, rfl⟩
  have hV2 : V 2 = tI 0 ∧ V 3 = tI 0 := by rw [hV]; exact ⟨rfl, rfl⟩
  have a1 : fk_up m S (oB 16 V) N = some (true, oB 15 W) := (up_ne _ _ (by omega)).trans g1
  have e2 : f_J3_isLatin1 (some N) (fk_up m S (oB 16 V)) = some 1 := by
    unfold f_J3_isLatin1
    rw [gI_of a1 g3, Option.bind_some, if_pos rfl]
  obtain ⟨m2, hm2⟩ : ∃ m2, m2 = fk_up m S (oB 16 (fk_set V 1 (tI 0))) := ⟨_, rfl⟩
  have b5 : m2 (N + 1) = some (true, aN 1 16 G) := by rw [hm2]; exact (up_ne _ _ (by omega)).trans g5
  obtain ⟨m3, hm3⟩ : ∃ m3, m3 = fk_up m2 (S + 1) (aN 1 len (fun _ => 0)) := ⟨_, rfl⟩
  have c5 : m3 (N + 1) = some (true, aN 1 16 G) := by rw [hm3]; exact (up_ne _ _ (by omega)).trans b5
  have c6 : m3 (S + 1) = some (true, aN 1 len (fun _ => 0)) := by rw [hm3]; exact up_eq ..
  obtain ⟨m4, hm4⟩ : ∃ m4, m4 = fk_up m3 (S + 1) (aN 1 len (va_cpy G (fun _ => 0) 0 0 len)) := ⟨_, rfl⟩
  have d1 : m4 S = some (true, oB 16 (fk_set V 1 (tI 0))) := by rw [hm4, up_ne _ _ (by omega), hm3, up_ne _ _ (by omega), hm2]; exact up_eq ..
  have hcopy : f_J9_copyOfRange (some (N + 1)) 0 (ii (len : Int)) (S + 1) (kk + 4) m2 = some (some (S + 1), S + 2, kk + 4 + len, m4) := by
    unfold f_J9_copyOfRange f_J9_copyOfRange_J10 f_J9_copyOfRangeByte f_J9_checkLength
    rw [if_pos rfl, aLn_ofI b5, Option.bind_some, if_neg (show ¬ ii (len : Int) = ii ((16 : Nat) : Int) by rw [ii_eq (by omega) (by omega)]; omega), if_pos (by rw [show (0 : Int32) = ii 0 from rfl, ii_le (by omega) (by omega)]; omega), Option.bind_some, show (0 : Int32) = ii 0 from rfl, ii_sub, Int.sub_zero, nA_of (S + 1) m2 1 (v := (len : Int)) (by omega) (by omega), Option.bind_some, show ((len : Int)).toNat = len from rfl, ← hm3, aLn_ofI c5, Option.bind_some, ii_sub, ii_min (by omega) (by omega), show min (((16 : Nat) : Int) - 0) (len : Int) = (len : Int) by omega, cpI_of c5 c6 (by omega) (by omega) (by omega) (by omega) (by omega) (by omega) (by omega) (by omega), Option.bind_some, show ((0 : Int)).toNat = 0 from rfl, show ((len : Int)).toNat = len from rfl, ← hm4, bn4_some, ii_nat (by omega) (by omega)]
    rfl
  refine ⟨fk_up m4 S (oB 16 (fk_set (fk_set V 1 (tI 0)) 0 (tR (some (S + 1))))), ?_, fun w w1 w2 => ⟨true, fk_set (fk_set V 1 (tI 0)) 0 (tR (some (S + 1))), S + 1, true, va_cpy G (fun _ => 0) 0 0 len, up_eq .., rfl, rfl, ?_, fun i hi => ?_, Or.inr (Or.inr ⟨hV2.1, hV2.2, rfl⟩)⟩, fun q q1 q2 => ?_⟩
  · unfold f_J4_toString f_J5_init f_J5_init_2 f_J3_getValue f_J4_length f_J3_length
    have hpB : pB (fk_up m S (oB 16 V)) (some S) 16 1 0 = some m2 := by
      unfold pB
      rw [if_pos (by decide), pV_of 1 _ (up_eq ..), up_up, hm2]
    rw [← hV, show isS (some S) = some () from rfl, Option.bind_some, Option.bind_some, Option.bind_some, isO_of a1, Option.bind_some, gR_of a1 g2, Option.bind_some, Option.bind_some, Option.bind_some, Option.bind_some, gI_of a1 g4, Option.bind_some, Option.bind_some, Option.bind_some, e2, Option.bind_some]
    rw [Option.bind_some, if_neg (show ¬ (1 : Int32) = 0 by decide), hpB, Option.bind_some, hcopy, bn4_some, pV_of 0 _ d1, Option.bind_some]
    rfl
  · rw [up_ne _ _ (by omega), hm4, w1]
    exact up_eq ..
  · unfold va_cpy
    rw [w1] at hi
    rw [if_pos (by omega), w2 i hi, show 0 + (i - 0) = i by omega]
    exact g6 i hi
  · rw [up_ne _ _ q1, hm4, up_ne _ _ q2, hm3, up_ne _ _ q2, hm2, up_ne _ _ q1]
