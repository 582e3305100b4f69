/-! BASE 2: what is known of the start, the judgement of the walk, rows of instructions that touch no cell (by gen_base.py) -/
set_option maxRecDepth 100000
abbrev fk_str : List (String × Nat × String) := [("FigureKnee$Tokens", 28, ""), ("FigureKnee$Reader", 111, ""), ("FigureKnee$Reader", 118, "pier"), ("FigureKnee$Reader", 123, "pair"), ("FigureKnee$Reader", 125, "contract"), ("FigureKnee$Reader", 127, "debt"), ("FigureKnee$Reader", 129, "unsure"), ("FigureKnee$Reader", 131, "heard"), ("FigureKnee$Reader", 146, "words"), ("FigureKnee$Reader", 151, "dumb"), ("FigureKnee$Token", 33, "pier"), ("FigureKnee$Token", 35, "pair"), ("FigureKnee$Token", 37, "contract"), ("FigureKnee$Token", 39, "debt"), ("FigureKnee$Token", 41, "unsure"), ("FigureKnee$Token", 43, "heard"), ("FigureKnee$Reader", 155, "creeping"), ("FigureKnee$Reader", 157, "leaping"), ("FigureKnee$Reader", 159, "fading"), ("FigureKnee$Reader", 161, "swinging"), ("FigureKnee$Reader", 194, "figure"), ("FigureKnee$Reader", 199, "step"), ("FigureKnee$Reader", 213, "every"), ("FigureKnee$Reader", 246, "season"), ("FigureKneeModel", 128, "pier"), ("FigureKneeModel", 208, "words"), ("FigureKneeModel", 214, "dumb"), ("FigureKneeModel", 130, "pair"), ("FigureKneeModel", 132, "contract"), ("FigureKneeModel", 134, "debt"), ("FigureKneeModel", 136, "unsure"), ("FigureKneeModel", 138, "heard"), ("FigureKneeModel", 220, "creeping"), ("FigureKneeModel", 222, "leaping"), ("FigureKneeModel", 224, "fading"), ("FigureKneeModel", 226, "swinging"), ("FigureKneeModel", 228, "figure"), ("FigureKneeModel", 230, "step"), ("FigureKneeModel", 235, "every"), ("FigureKneeModel", 237, "season")]
abbrev fk_cst : List (String × String) := [("FigureKnee$Pair", "java/lang/Object"), ("FigureKnee$Debt", "java/lang/Object"), ("FigureKnee$Heard", "java/lang/Object"), ("FigureKnee$Stage", "java/lang/Object")]
abbrev fk_dcl : List MethodName := [⟨"java/lang/Object", "getClass", "()Ljava/lang/Class;"⟩, ⟨"FigureKnee$Law", "then", "(III)I"⟩]
abbrev fk_fln : List (String × Nat × String × String × String × String) := [("FigureKnee", 82, "FigureKnee$Reader", "fault", "I", "FigureKnee"), ("FigureKnee", 86, "FigureKnee$Reader", "place", "I", "FigureKnee"), ("FigureKnee", 166, "FigureKnee$Law", "number", "I", "FigureKnee")]
abbrev fk_mln : List (String × Nat × MethodName × String) := [("FigureKnee$Reader", 11, ⟨"FigureKnee$Pier", "<init>", "()V"⟩, "FigureKnee"), ("FigureKnee$Tokens", 33, ⟨"FigureKnee", "in", "(III)Z"⟩, "FigureKnee"), ("FigureKnee$Reader", 63, ⟨"FigureKnee", "in", "(III)Z"⟩, "FigureKnee")]
/-- places in G.2.2 behind the String constants: ArrayList's empty array, the mirror of Object[] -/
def fk_oo : Nat → Option Nat
  | 0 => none
  | n + 1 => some n
abbrev fk_sta (G : fk_G) : List (String × String × String × Value) := [("java/lang/String", "COMPACT_STRINGS", "Z", .int 1), ("java/util/ArrayList", "DEFAULTCAPACITY_EMPTY_ELEMENTDATA", "[Ljava/lang/Object;", .ref (G.2.2 40)), ("jdk/internal/util/Preconditions", "SIOOBE_FORMATTER", "Ljava/util/function/BiFunction;", va_rf (fk_oo (G.2.2 42)))]
abbrev fk_ens : MethodName := ⟨"java/lang/AbstractStringBuilder", "ensureCapacityInternal", "(I)V"⟩
def fk_K (G : fk_G) (b0 : Nat) (U : State) : Prop :=
  (∀ (c : Nat) (q : vw_C), fk_cl[c]? = some q → u_Kn U q.1 q.2.1 q.2.2 (G.1.1 c) (G.1.2 c)) ∧
  (∀ t : Nat, t < 5 → ArrOfT U (G.2.1 t) (fk_ty t) ∧ va_RA U (G.2.1 t) (fk_ty t)) ∧
  (∀ (i : Nat) (q : String × Nat × String), fk_str[i]? = some q → vk_R q.1 q.2.1 q.2.2 (G.2.2 i) U) ∧
  (∀ q ∈ fk_cst, va_Nw (.castable q.1 q.2) U) ∧ (∀ x ∈ fk_dcl, va_Nw (.declares x) U) ∧
  (∀ q ∈ fk_fln, va_Nw (.fieldLinkNest q.1 q.2.1 q.2.2.1 q.2.2.2.1 q.2.2.2.2.1 q.2.2.2.2.2) U) ∧
  (∀ q ∈ fk_mln, va_Nw (.methodLinkNest q.1 q.2.1 q.2.2.1 q.2.2.2) U) ∧
  va_AO "java/lang/Object" U ∧ va_Mi "[Ljava/lang/Object;" (G.2.2 41) U ∧
  (∀ q ∈ fk_sta G, va_Z q.1 q.2.1 q.2.2.1 q.2.2.2 (fun a => b0 ≤ a) U U.heap) ∧ b0 ≤ U.heap.size ∧ va_Nw (.selects "java/lang/StringBuilder" fk_ens fk_ens) U
theorem fk_K.next {G : fk_G} {b0 : Nat} {s U : State} (hW : s.WarmedH U.vm) (hz : s.heap.size ≤ U.heap.size) (hq : ∀ q : Nat, q < s.heap.size → ¬ b0 ≤ q → U.heap[q]? = s.heap[q]?) (h : fk_K G b0 s) : fk_K G b0 U := by
  obtain ⟨h1, h2, h3, h4, h5, h6, h7, h8, h9, h10, h11, h12⟩ := h
  refine ⟨fun c q hc => u_Kn_moved hW.alike (h1 c q hc), fun t ht => ⟨arrOfT_moved hW.alike (h2 t ht).1, (h2 t ht).2.moved hW.alike⟩, fun i q hi => (h3 i q hi).warm hW, fun q hc => (h4 q hc).warmC hW, fun x hx => (h5 x hx).warmD hW, fun q hc => (h6 q hc).warmF hW, fun q hc => (h7 q hc).warmM hW, h8.moved hW.alike, h9.moved hW.alike, fun q hc => ((h10 q hc).moved hW.alike).kept (fun a ha hn => hq a ha hn), Nat.le_trans h11 hz, word_at hW (Or.inl rfl) h12⟩
theorem fk_K.same {G : fk_G} {b0 : Nat} {u U : State} (hv : u.vm = U.vm) (hh : u.heap = U.heap) (h : fk_K G b0 u) : fk_K G b0 U := by
  obtain ⟨h1, h2, h3, h4, h5, h6, h7, h8, h9, h10, h11, h12⟩ := h
  have ha : u.vm.Alike U.vm := by rw [hv]; exact Vm.Alike.refl _
  refine ⟨fun c q hc => u_Kn_moved ha (h1 c q hc), fun t ht => ⟨arrOfT_moved ha (h2 t ht).1, (h2 t ht).2.moved ha⟩, fun i q hi => (h3 i q hi).same hv.symm, fun q hc => (h4 q hc).same rfl hv, fun x hx => (h5 x hx).same rfl hv, fun q hc => (h6 q hc).same rfl hv, fun q hc => (h7 q hc).same rfl hv, h8.moved ha, h9.moved ha, fun q hc => ?_, by rw [← hh]; exact h11, h12.same rfl hv⟩
  rw [← hh]
  exact (h10 q hc).moved ha
/-- the surroundings of a walk in one -/
abbrev fk_E : Type := Program × Launch × Env × Room × State × MethodId × Array Value × List Frame × Method × Code × fk_G × Nat × (State → Prop)
def fk_W (E : fk_E) (nL n : Nat) (mp : fk_M) (cs sl pc : Nat) (lv : List (Nat × fk_T)) (st : List fk_T) : Prop := match E with
  | (p, l, e, R, s, m, args, below, meth, c, G, b0, Q) => ∀ (H : Heap) (locs : List Loc) (ls : Array Slot), fk_R G b0 n mp H → va_S (fun q => b0 ≤ q) s.heap H locs → lv_has ls nL (fk_l lv) → W p l e R s m args below meth c H locs cs sl Q (F0 m pc ls (fk_s st))
def fk_X (E : fk_E) (l0 : Launch) (G0 : fk_G) (b00 : Nat) (own mn : String) (cc : ByteArray) (nL fr lo rc rs : Nat) : Prop := match E with
  | (p, l, e, R, s, m, args, below, meth, c, G, b0, Q) => (CallFix p m c cc nL s args lw_all own ∧ fk_K G b0 s) ∧ (l = l0 ∧ G = G0 ∧ b0 = b00) ∧ meth.name = mn ∧ R.frames = fr ∧ R.locals = lo ∧ R.cells = rc ∧ R.slots = rs
/-- a method's start and end -/
def fk_Pc (G : fk_G) (b0 : Nat) (av : List fk_T) (n : Nat) (mp : fk_M) : Array Value → State → Prop := fun v U => v = (fk_s av).toArray ∧ fk_K G b0 U ∧ fk_R G b0 n mp U.heap
def fk_Qc (G : fk_G) (b0 : Nat) (rv : Option fk_T) (n' : Nat) (mp' : fk_M) : Array Value → State → Outcome → State → Prop := fun _ st o t => o = .returned (rv.map fk_v) ∧ fk_R G b0 n' mp' t.heap ∧ va_F (fun q => b0 ≤ q) st t
def fk_Y (E : fk_E) (ret : Option FieldType) (rv : Option fk_T) (n' : Nat) (mp' : fk_M) (mc ms : Nat) : Prop := match E with
  | (p, l, e, R, s, m, args, below, meth, c, G, b0, Q) => Q = MQ below (fk_Qc G b0 rv n' mp') args s mc ms (fun q => b0 ≤ q) ∧ meth.sig.returnType = ret ∧ meth.locks = false
/-- A CONTRACT: with these arguments at a heap of n cells that mp tells, the method answers rv, and then n' cells are told by mp' -/
def fk_Ct (l : Launch) (G : fk_G) (b0 : Nat) (y : MethodName) (cc : ByteArray) (nL : Nat) (ret : Option FieldType) (fr lo : Nat) (av : List fk_T) (n : Nat) (mp : fk_M) (rv : Option fk_T) (n' : Nat) (mp' : fk_M) (mc ms : Nat) : Prop :=
  Met l y (ws_ y cc nL ret) ({ frames := fr, cells := mc, slots := ms, locals := lo } : Room) (fk_Pc G b0 av n mp) (fk_Qc G b0 rv n' mp') mc ms (fun q => b0 ≤ q)
def fk_a : Nat → List fk_T → List (Nat × fk_T)
  | _, [] => []
  | i, v :: vs => (i, v) :: fk_a (if fk_2 v then i + 2 else i + 1) vs
theorem fk_a_eq : ∀ (i : Nat) (vs : List fk_T), lv_args i (fk_s vs) = fk_l (fk_a i vs)
  | _, [] => rfl
  | i, v :: vs => by
    show (i, fk_v v) :: lv_args (if (fk_v v).category = 2 then i + 2 else i + 1) (fk_s vs) = (i, fk_v v) :: fk_l (fk_a (if fk_2 v then i + 2 else i + 1) vs)
    have h : (if (fk_v v).category = 2 then i + 2 else i + 1) = (if fk_2 v then i + 2 else i + 1) := by
      rw [fk_cat]
      cases fk_2 v <;> rfl
    rw [h, fk_a_eq]
def fk_w : List fk_T → Nat
  | [] => 0
  | v :: vs => (if fk_2 v then 2 else 1) + fk_w vs
theorem fk_w_eq : ∀ vs : List fk_T, (lg_sl (fk_s vs)).length = fk_w vs
  | [] => rfl
  | v :: vs => by
    have h := fk_w_eq vs
    unfold lg_sl at h ⊢
    show (((if (fk_v v).category = 2 then [Slot.val (fk_v v), .second] else [.val (fk_v v)]) ++ (fk_s vs).flatMap fun v => if v.category = 2 then [Slot.val v, .second] else [.val v])).length = _
    rw [List.length_append, h, fk_cat]
    show _ = (if fk_2 v then 2 else 1) + fk_w vs
    cases fk_2 v <;> rfl
theorem fk_sum : ∀ st : List fk_T, ((fk_s st).map fun v => v.category).sum = fk_w st
  | [] => rfl
  | v :: st => by
    have h := fk_sum st
    show (fk_v v).category + ((fk_s st).map fun v => v.category).sum = _
    rw [h, fk_cat]
    rfl
theorem fk_enter {l : Launch} {G : fk_G} {b0 : Nat} {y : MethodName} {cc : ByteArray} {nL : Nat} {ret : Option FieldType} {fr lo : Nat} {av : List fk_T} {n : Nat} {mp : fk_M} {rv : Option fk_T} {n' : Nat} {mp' : fk_M} {mc ms : Nat}
    (hy : plainName y.cls = true) (hw : Nat.ble (fk_w av) nL = true)
    (body : ∀ E : fk_E, fk_X E l G b0 y.cls y.name cc nL fr lo mc ms → fk_Y E ret rv n' mp' mc ms → fk_W E nL n mp 0 0 0 (fk_a 0 av) []) : fk_Ct l G b0 y cc nL ret fr lo av n mp rv n' mp' mc ms := by
  refine Met.ofW (cc := cc) (maxL := nL) (ret := ret) hy rfl ?_
  intro p e s m args below meth c s₁ B hml hv
  obtain ⟨rfl, hK, hR⟩ := hv
  have hts := atoms_spec (ws := ws_ y cc nL ret) B.pre
  have hts : ∀ w ∈ lw_all, w.before _ s = true := fun w h => hts w (List.mem_cons_of_mem _ h)
  have hX : fk_X (p, l, e, { frames := fr, cells := mc, slots := ms, locals := lo }, s, m, (fk_s av).toArray, below, meth, c, G, b0, MQ below (fk_Qc G b0 rv n' mp') (fk_s av).toArray s mc ms (fun q => b0 ≤ q)) l G b0 y.cls y.name cc nL fr lo mc ms :=
    ⟨⟨⟨B.exec, B.bytes, hml, findClass_of_methodNamed B.named, hts⟩, hK⟩, ⟨rfl, rfl, rfl⟩, (name_of_methodNamed B.named B.method).1, rfl, rfl, rfl, rfl⟩
  have hb := body _ hX ⟨rfl, B.returns, B.notSynchronized⟩
  rw [lg_entry_eq]
  have hl := lv_entry (fk_s av) (n := nL) (by rw [fk_w_eq]; exact Nat.le_of_ble_eq_true hw)
  rw [fk_a_eq] at hl
  exact hb s.heap [] _ hR va_S.rf hl

section FKR
variable {E : fk_E} {l0 : Launch} {G0 : fk_G} {b00 : Nat} {own mn : String} {cc : ByteArray} {nL fr lo rc rs n cs sl pc : Nat} {mp : fk_M} {lv : List (Nat × fk_T)} {st : List fk_T}
abbrev i_rem (x y : Int32) : Int32 := x - x / y * y
abbrev l_rem (x y : Int64) : Int64 := x - x / y * y
abbrev i_shl (x y : Int32) : Int32 := x <<< (y &&& 31)
abbrev i_shr (x y : Int32) : Int32 := x >>> (y &&& 31)
abbrev i_ushr (x y : Int32) : Int32 := (x.toUInt32 >>> (y.toUInt32 &&& Int32.toUInt32 31)).toInt32
abbrev i_b (x : Int32) : Int32 := x.toInt8.toInt32
abbrev i_s (x : Int32) : Int32 := x.toInt16.toInt32
abbrev i_c (x : Int32) : Int32 := (x.toUInt32 % 65536).toInt32
theorem fk_iconst (X : fk_X E l0 G0 b00 own mn cc nL fr lo rc rs) {i : Int} {v : Int32} (d : decode cc pc = .ok (.iconst i, 1)) (hv : Int32.ofInt i = v) (k : fk_W E nL n mp cs sl (pc + 1) lv (tI v :: st)) : fk_W E nL n mp cs sl pc lv st := by
  obtain ⟨p, l, e, R, s, m, args, below, meth, c, G, b0, Q⟩ := E
  obtain ⟨⟨⟨hx, hb, hml, hown, hts⟩, hK⟩, ⟨rfl, rfl, rfl⟩, hmn, hfr, hlo, hrc, hrs⟩ := X
  intro H locs ls hR hS hl
  exact lv_iconst hx hb d hv (k H locs ls hR hS hl)
theorem fk_bipush (X : fk_X E l0 G0 b00 own mn cc nL fr lo rc rs) {i : Int} {v : Int32} (d : decode cc pc = .ok (.bipush i, 2)) (hv : (Int8.ofInt i).toInt32 = v) (k : fk_W E nL n mp cs sl (pc + 2) lv (tI v :: st)) : fk_W E nL n mp cs sl pc lv st := by
  obtain ⟨p, l, e, R, s, m, args, below, meth, c, G, b0, Q⟩ := E
  obtain ⟨⟨⟨hx, hb, hml, hown, hts⟩, hK⟩, ⟨rfl, rfl, rfl⟩, hmn, hfr, hlo, hrc, hrs⟩ := X
  intro H locs ls hR hS hl
  exact lv_bipush hx hb d hv (k H locs ls hR hS hl)
theorem fk_sipush (X : fk_X E l0 G0 b00 own mn cc nL fr lo rc rs) {i : Int} {v : Int32} (d : decode cc pc = .ok (.sipush i, 3)) (hv : (Int16.ofInt i).toInt32 = v) (k : fk_W E nL n mp cs sl (pc + 3) lv (tI v :: st)) : fk_W E nL n mp cs sl pc lv st := by
  obtain ⟨p, l, e, R, s, m, args, below, meth, c, G, b0, Q⟩ := E
  obtain ⟨⟨⟨hx, hb, hml, hown, hts⟩, hK⟩, ⟨rfl, rfl, rfl⟩, hmn, hfr, hlo, hrc, hrs⟩ := X
  intro H locs ls hR hS hl
  exact lv_sipush hx hb d hv (k H locs ls hR hS hl)
theorem fk_lconst (X : fk_X E l0 G0 b00 own mn cc nL fr lo rc rs) {i : Fin 2} {v : Int64} (d : decode cc pc = .ok (.lconst i, 1)) (hv : Int64.ofNat (i : Nat) = v) (k : fk_W E nL n mp cs sl (pc + 1) lv (tL v :: st)) : fk_W E nL n mp cs sl pc lv st := by
  obtain ⟨p, l, e, R, s, m, args, below, meth, c, G, b0, Q⟩ := E
  obtain ⟨⟨⟨hx, hb, hml, hown, hts⟩, hK⟩, ⟨rfl, rfl, rfl⟩, hmn, hfr, hlo, hrc, hrs⟩ := X
  intro H locs ls hR hS hl
  exact lv_lconst hx hb d hv (k H locs ls hR hS hl)
theorem fk_null (X : fk_X E l0 G0 b00 own mn cc nL fr lo rc rs)  (d : decode cc pc = .ok (.aconst_null, 1)) (k : fk_W E nL n mp cs sl (pc + 1) lv (tR none :: st)) : fk_W E nL n mp cs sl pc lv st := by
  obtain ⟨p, l, e, R, s, m, args, below, meth, c, G, b0, Q⟩ := E
  obtain ⟨⟨⟨hx, hb, hml, hown, hts⟩, hK⟩, ⟨rfl, rfl, rfl⟩, hmn, hfr, hlo, hrc, hrs⟩ := X
  intro H locs ls hR hS hl
  exact lv_null hx hb d (k H locs ls hR hS hl)
theorem fk_ldc (X : fk_X E l0 G0 b00 own mn cc nL fr lo rc rs) {index : Nat} {v : Int32} (q : Cond.constant own index v ∈ lw_all) (d : decode cc pc = .ok (.ldc index, 2)) (k : fk_W E nL n mp cs sl (pc + 2) lv (tI v :: st)) : fk_W E nL n mp cs sl pc lv st := by
  obtain ⟨p, l, e, R, s, m, args, below, meth, c, G, b0, Q⟩ := E
  obtain ⟨⟨⟨hx, hb, hml, hown, hts⟩, hK⟩, ⟨rfl, rfl, rfl⟩, hmn, hfr, hlo, hrc, hrs⟩ := X
  intro H locs ls hR hS hl
  exact lv_ldc hx hb hown (hts _ q) d (k H locs ls hR hS hl)
theorem fk_ldcw (X : fk_X E l0 G0 b00 own mn cc nL fr lo rc rs) {index : Nat} {v : Int32} (q : Cond.constant own index v ∈ lw_all) (d : decode cc pc = .ok (.ldc_w index, 3)) (k : fk_W E nL n mp cs sl (pc + 3) lv (tI v :: st)) : fk_W E nL n mp cs sl pc lv st := by
  obtain ⟨p, l, e, R, s, m, args, below, meth, c, G, b0, Q⟩ := E
  obtain ⟨⟨⟨hx, hb, hml, hown, hts⟩, hK⟩, ⟨rfl, rfl, rfl⟩, hmn, hfr, hlo, hrc, hrs⟩ := X
  intro H locs ls hR hS hl
  exact lv_ldcw hx hb hown (hts _ q) d (k H locs ls hR hS hl)
theorem fk_ldc2 (X : fk_X E l0 G0 b00 own mn cc nL fr lo rc rs) {index : Nat} {v : Int64} (q : Cond.constantLong own index v ∈ lw_all) (d : decode cc pc = .ok (.ldc2_w index, 3)) (k : fk_W E nL n mp cs sl (pc + 3) lv (tL v :: st)) : fk_W E nL n mp cs sl pc lv st := by
  obtain ⟨p, l, e, R, s, m, args, below, meth, c, G, b0, Q⟩ := E
  obtain ⟨⟨⟨hx, hb, hml, hown, hts⟩, hK⟩, ⟨rfl, rfl, rfl⟩, hmn, hfr, hlo, hrc, hrs⟩ := X
  intro H locs ls hR hS hl
  exact lv_ldc2 hx hb hown (hts _ q) d (k H locs ls hR hS hl)
theorem fk_ldcS (X : fk_X E l0 G0 b00 own mn cc nL fr lo rc rs) {index i : Nat} {tx : String} (q : fk_str[i]? = some (own, index, tx)) (d : decode cc pc = .ok (.ldc index, 2)) (k : fk_W E nL n mp cs sl (pc + 2) lv (tR (some (G0.2.2 i)) :: st)) : fk_W E nL n mp cs sl pc lv st := by
  obtain ⟨p, l, e, R, s, m, args, below, meth, c, G, b0, Q⟩ := E
  obtain ⟨⟨⟨hx, hb, hml, hown, hts⟩, hK⟩, ⟨rfl, rfl, rfl⟩, hmn, hfr, hlo, hrc, hrs⟩ := X
  intro H locs ls hR hS hl
  exact va_ldcS hx hb hown (hK.2.2.1 i _ q) d (k H locs ls hR hS hl)
theorem fk_lv {ls : Array Slot} {i j : Nat} {v : fk_T} (hl : lv_has ls nL (fk_l lv)) (h : lv[j]? = some (i, v)) : ls[i]? = some (.val (fk_v v)) := by
  refine lv_at hl j ?_
  unfold fk_l
  rw [List.getElem?_map, h]
  rfl
theorem fk_iload_n (X : fk_X E l0 G0 b00 own mn cc nL fr lo rc rs) {i : Fin 4} {x : Int32} (j : Nat) (d : decode cc pc = .ok (.iload_n i, 1)) (h : lv[j]? = some ((i : Nat), tI x)) (k : fk_W E nL n mp cs sl (pc + 1) lv (tI x :: st)) : fk_W E nL n mp cs sl pc lv st := by
  obtain ⟨p, l, e, R, s, m, args, below, meth, c, G, b0, Q⟩ := E
  obtain ⟨⟨⟨hx, hb, hml, hown, hts⟩, hK⟩, ⟨rfl, rfl, rfl⟩, hmn, hfr, hlo, hrc, hrs⟩ := X
  intro H locs ls hR hS hl
  exact lv_iload_n hx hb d rfl (fk_lv hl h) (k H locs ls hR hS hl)
theorem fk_iload (X : fk_X E l0 G0 b00 own mn cc nL fr lo rc rs) {i : Nat} {x : Int32} (j : Nat) (d : decode cc pc = .ok (.iload i, 2)) (h : lv[j]? = some (i, tI x)) (k : fk_W E nL n mp cs sl (pc + 2) lv (tI x :: st)) : fk_W E nL n mp cs sl pc lv st := by
  obtain ⟨p, l, e, R, s, m, args, below, meth, c, G, b0, Q⟩ := E
  obtain ⟨⟨⟨hx, hb, hml, hown, hts⟩, hK⟩, ⟨rfl, rfl, rfl⟩, hmn, hfr, hlo, hrc, hrs⟩ := X
  intro H locs ls hR hS hl
  exact lv_iload hx hb d (fk_lv hl h) (k H locs ls hR hS hl)
theorem fk_lload_n (X : fk_X E l0 G0 b00 own mn cc nL fr lo rc rs) {i : Fin 4} {x : Int64} (j : Nat) (d : decode cc pc = .ok (.lload_n i, 1)) (h : lv[j]? = some ((i : Nat), tL x)) (k : fk_W E nL n mp cs sl (pc + 1) lv (tL x :: st)) : fk_W E nL n mp cs sl pc lv st := by
  obtain ⟨p, l, e, R, s, m, args, below, meth, c, G, b0, Q⟩ := E
  obtain ⟨⟨⟨hx, hb, hml, hown, hts⟩, hK⟩, ⟨rfl, rfl, rfl⟩, hmn, hfr, hlo, hrc, hrs⟩ := X
  intro H locs ls hR hS hl
  exact lv_lload_n hx hb d rfl (fk_lv hl h) (k H locs ls hR hS hl)
theorem fk_lload (X : fk_X E l0 G0 b00 own mn cc nL fr lo rc rs) {i : Nat} {x : Int64} (j : Nat) (d : decode cc pc = .ok (.lload i, 2)) (h : lv[j]? = some (i, tL x)) (k : fk_W E nL n mp cs sl (pc + 2) lv (tL x :: st)) : fk_W E nL n mp cs sl pc lv st := by
  obtain ⟨p, l, e, R, s, m, args, below, meth, c, G, b0, Q⟩ := E
  obtain ⟨⟨⟨hx, hb, hml, hown, hts⟩, hK⟩, ⟨rfl, rfl, rfl⟩, hmn, hfr, hlo, hrc, hrs⟩ := X
  intro H locs ls hR hS hl
  exact lv_lload hx hb d (fk_lv hl h) (k H locs ls hR hS hl)
theorem fk_aload_n (X : fk_X E l0 G0 b00 own mn cc nL fr lo rc rs) {i : Fin 4} {q : Option Nat} (j : Nat) (d : decode cc pc = .ok (.aload_n i, 1)) (h : lv[j]? = some ((i : Nat), tR q)) (k : fk_W E nL n mp cs sl (pc + 1) lv (tR q :: st)) : fk_W E nL n mp cs sl pc lv st := by
  obtain ⟨p, l, e, R, s, m, args, below, meth, c, G, b0, Q⟩ := E
  obtain ⟨⟨⟨hx, hb, hml, hown, hts⟩, hK⟩, ⟨rfl, rfl, rfl⟩, hmn, hfr, hlo, hrc, hrs⟩ := X
  intro H locs ls hR hS hl
  cases q with
  | none => exact lv_aload_nN hx hb d rfl (fk_lv hl h) (k H locs ls hR hS hl)
  | some a => exact lv_aload_n hx hb d rfl (fk_lv hl h) (k H locs ls hR hS hl)
theorem fk_aload (X : fk_X E l0 G0 b00 own mn cc nL fr lo rc rs) {i : Nat} {q : Option Nat} (j : Nat) (d : decode cc pc = .ok (.aload i, 2)) (h : lv[j]? = some (i, tR q)) (k : fk_W E nL n mp cs sl (pc + 2) lv (tR q :: st)) : fk_W E nL n mp cs sl pc lv st := by
  obtain ⟨p, l, e, R, s, m, args, below, meth, c, G, b0, Q⟩ := E
  obtain ⟨⟨⟨hx, hb, hml, hown, hts⟩, hK⟩, ⟨rfl, rfl, rfl⟩, hmn, hfr, hlo, hrc, hrs⟩ := X
  intro H locs ls hR hS hl
  cases q with
  | none => exact lv_aloadN hx hb d (fk_lv hl h) (k H locs ls hR hS hl)
  | some a => exact lv_aload hx hb d (fk_lv hl h) (k H locs ls hR hS hl)
def fk_st1 (lv : List (Nat × fk_T)) (i : Nat) (v : fk_T) : List (Nat × fk_T) := (i, v) :: lv.filter (fun q => !(q.1 == i) && !(q.1 + 1 == i && fk_2 q.2))
def fk_st2 (lv : List (Nat × fk_T)) (i : Nat) (v : fk_T) : List (Nat × fk_T) := (i, v) :: lv.filter (fun q => !(q.1 == i) && (!(q.1 == i + 1) && !(q.1 + 1 == i && fk_2 q.2)))
theorem fk_c2 (v : fk_T) : ((fk_v v).category == 2) = fk_2 v := by
  rw [fk_cat]
  cases fk_2 v <;> rfl
theorem fk_st1_eq (lv : List (Nat × fk_T)) (i : Nat) (v : fk_T) : (i, fk_v v) :: (fk_l lv).filter (fun q => !(q.1 == i) && !(q.1 + 1 == i && q.2.category == 2)) = fk_l (fk_st1 lv i v) := by
  unfold fk_st1 fk_l
  rw [List.map_cons, List.filter_map]
  congr 2
  apply List.filter_congr
  intro q _
  show (!(q.1 == i) && !(q.1 + 1 == i && ((fk_v q.2).category == 2))) = _
  rw [fk_c2]
theorem fk_st2_eq (lv : List (Nat × fk_T)) (i : Nat) (v : fk_T) : (i, fk_v v) :: (fk_l lv).filter (fun q => !(q.1 == i) && (!(q.1 == i + 1) && !(q.1 + 1 == i && q.2.category == 2))) = fk_l (fk_st2 lv i v) := by
  unfold fk_st2 fk_l
  rw [List.map_cons, List.filter_map]
  congr 2
  apply List.filter_congr
  intro q _
  show (!(q.1 == i) && (!(q.1 == i + 1) && !(q.1 + 1 == i && ((fk_v q.2).category == 2)))) = _
  rw [fk_c2]
theorem fk_istore_n (X : fk_X E l0 G0 b00 own mn cc nL fr lo rc rs) {i : Fin 4} {x : Int32} (lv2 : List (Nat × fk_T)) (d : decode cc pc = .ok (.istore_n i, 1)) (hn : Nat.blt (i : Nat) nL = true) (h : fk_st1 lv (i : Nat) (tI x) = lv2) (k : fk_W E nL n mp cs sl (pc + 1) lv2 st) : fk_W E nL n mp cs sl pc lv (tI x :: st) := by
  obtain ⟨p, l, e, R, s, m, args, below, meth, c, G, b0, Q⟩ := E
  obtain ⟨⟨⟨hx, hb, hml, hown, hts⟩, hK⟩, ⟨rfl, rfl, rfl⟩, hmn, hfr, hlo, hrc, hrs⟩ := X
  intro H locs ls hR hS hl
  subst h
  exact lv_istore_n hx hb d rfl hl (Nat.le_of_ble_eq_true hn) (fk_st1_eq lv (i : Nat) (tI x)) (fun ls hl => k H locs ls hR hS hl)
theorem fk_istore (X : fk_X E l0 G0 b00 own mn cc nL fr lo rc rs) {i : Nat} {x : Int32} (lv2 : List (Nat × fk_T)) (d : decode cc pc = .ok (.istore i, 2)) (hn : Nat.blt i nL = true) (h : fk_st1 lv i (tI x) = lv2) (k : fk_W E nL n mp cs sl (pc + 2) lv2 st) : fk_W E nL n mp cs sl pc lv (tI x :: st) := by
  obtain ⟨p, l, e, R, s, m, args, below, meth, c, G, b0, Q⟩ := E
  obtain ⟨⟨⟨hx, hb, hml, hown, hts⟩, hK⟩, ⟨rfl, rfl, rfl⟩, hmn, hfr, hlo, hrc, hrs⟩ := X
  intro H locs ls hR hS hl
  subst h
  exact lv_istore hx hb d hl (Nat.le_of_ble_eq_true hn) (fk_st1_eq lv i (tI x)) (fun ls hl => k H locs ls hR hS hl)
theorem fk_lstore_n (X : fk_X E l0 G0 b00 own mn cc nL fr lo rc rs) {i : Fin 4} {x : Int64} (lv2 : List (Nat × fk_T)) (d : decode cc pc = .ok (.lstore_n i, 1)) (hn : Nat.blt ((i : Nat) + 1) nL = true) (h : fk_st2 lv (i : Nat) (tL x) = lv2) (k : fk_W E nL n mp cs sl (pc + 1) lv2 st) : fk_W E nL n mp cs sl pc lv (tL x :: st) := by
  obtain ⟨p, l, e, R, s, m, args, below, meth, c, G, b0, Q⟩ := E
  obtain ⟨⟨⟨hx, hb, hml, hown, hts⟩, hK⟩, ⟨rfl, rfl, rfl⟩, hmn, hfr, hlo, hrc, hrs⟩ := X
  intro H locs ls hR hS hl
  subst h
  exact lv_lstore_n hx hb d rfl hl (Nat.le_of_ble_eq_true hn) (fk_st2_eq lv (i : Nat) (tL x)) (fun ls hl => k H locs ls hR hS hl)
theorem fk_lstore (X : fk_X E l0 G0 b00 own mn cc nL fr lo rc rs) {i : Nat} {x : Int64} (lv2 : List (Nat × fk_T)) (d : decode cc pc = .ok (.lstore i, 2)) (hn : Nat.blt (i + 1) nL = true) (h : fk_st2 lv i (tL x) = lv2) (k : fk_W E nL n mp cs sl (pc + 2) lv2 st) : fk_W E nL n mp cs sl pc lv (tL x :: st) := by
  obtain ⟨p, l, e, R, s, m, args, below, meth, c, G, b0, Q⟩ := E
  obtain ⟨⟨⟨hx, hb, hml, hown, hts⟩, hK⟩, ⟨rfl, rfl, rfl⟩, hmn, hfr, hlo, hrc, hrs⟩ := X
  intro H locs ls hR hS hl
  subst h
  exact lv_lstore hx hb d hl (Nat.le_of_ble_eq_true hn) (fk_st2_eq lv i (tL x)) (fun ls hl => k H locs ls hR hS hl)
theorem fk_astore_n (X : fk_X E l0 G0 b00 own mn cc nL fr lo rc rs) {i : Fin 4} {x : Option Nat} (lv2 : List (Nat × fk_T)) (d : decode cc pc = .ok (.astore_n i, 1)) (hn : Nat.blt (i : Nat) nL = true) (h : fk_st1 lv (i : Nat) (tR x) = lv2) (k : fk_W E nL n mp cs sl (pc + 1) lv2 st) : fk_W E nL n mp cs sl pc lv (tR x :: st) := by
  obtain ⟨p, l, e, R, s, m, args, below, meth, c, G, b0, Q⟩ := E
  obtain ⟨⟨⟨hx, hb, hml, hown, hts⟩, hK⟩, ⟨rfl, rfl, rfl⟩, hmn, hfr, hlo, hrc, hrs⟩ := X
  intro H locs ls hR hS hl
  subst h
  cases x with
  | none => exact lv_astore_nN hx hb d rfl hl (Nat.le_of_ble_eq_true hn) (fk_st1_eq lv (i : Nat) (tR none)) (fun ls hl => k H locs ls hR hS hl)
  | some a => exact lv_astore_n hx hb d rfl hl (Nat.le_of_ble_eq_true hn) (fk_st1_eq lv (i : Nat) (tR (some a))) (fun ls hl => k H locs ls hR hS hl)
theorem fk_astore (X : fk_X E l0 G0 b00 own mn cc nL fr lo rc rs) {i : Nat} {x : Option Nat} (lv2 : List (Nat × fk_T)) (d : decode cc pc = .ok (.astore i, 2)) (hn : Nat.blt i nL = true) (h : fk_st1 lv i (tR x) = lv2) (k : fk_W E nL n mp cs sl (pc + 2) lv2 st) : fk_W E nL n mp cs sl pc lv (tR x :: st) := by
  obtain ⟨p, l, e, R, s, m, args, below, meth, c, G, b0, Q⟩ := E
  obtain ⟨⟨⟨hx, hb, hml, hown, hts⟩, hK⟩, ⟨rfl, rfl, rfl⟩, hmn, hfr, hlo, hrc, hrs⟩ := X
  intro H locs ls hR hS hl
  subst h
  cases x with
  | none => exact lv_astoreN hx hb d hl (Nat.le_of_ble_eq_true hn) (fk_st1_eq lv i (tR none)) (fun ls hl => k H locs ls hR hS hl)
  | some a => exact lv_astore hx hb d hl (Nat.le_of_ble_eq_true hn) (fk_st1_eq lv i (tR (some a))) (fun ls hl => k H locs ls hR hS hl)
theorem fk_iinc (X : fk_X E l0 G0 b00 own mn cc nL fr lo rc rs) {i : Nat} {z : Int} {x v : Int32} (j : Nat) (lv2 : List (Nat × fk_T)) (d : decode cc pc = .ok (.iinc i z, 3)) (hj : lv[j]? = some (i, tI x)) (hv : x + Int32.ofInt z = v) (hn : Nat.blt i nL = true) (h : fk_st1 lv i (tI v) = lv2) (k : fk_W E nL n mp cs sl (pc + 3) lv2 st) : fk_W E nL n mp cs sl pc lv st := by
  obtain ⟨p, l, e, R, s, m, args, below, meth, c, G, b0, Q⟩ := E
  obtain ⟨⟨⟨hx, hb, hml, hown, hts⟩, hK⟩, ⟨rfl, rfl, rfl⟩, hmn, hfr, hlo, hrc, hrs⟩ := X
  intro H locs ls hR hS hl
  subst h
  exact lv_iinc hx hb d hl (k := j) (by unfold fk_l; rw [List.getElem?_map, hj]; rfl) hv (Nat.le_of_ble_eq_true hn) (fk_st1_eq lv i (tI v)) (fun ls hl => k H locs ls hR hS hl)
theorem fk_iadd (X : fk_X E l0 G0 b00 own mn cc nL fr lo rc rs) {x y : Int32} (d : decode cc pc = .ok (.iadd, 1)) (k : fk_W E nL n mp cs sl (pc + 1) lv (tI (x + y) :: st)) : fk_W E nL n mp cs sl pc lv (tI y :: tI x :: st) := by
  obtain ⟨p, l, e, R, s, m, args, below, meth, c, G, b0, Q⟩ := E
  obtain ⟨⟨⟨hx, hb, hml, hown, hts⟩, hK⟩, ⟨rfl, rfl, rfl⟩, hmn, hfr, hlo, hrc, hrs⟩ := X
  intro H locs ls hR hS hl
  exact lv_iadd hx hb d (k H locs ls hR hS hl)
theorem fk_isub (X : fk_X E l0 G0 b00 own mn cc nL fr lo rc rs) {x y : Int32} (d : decode cc pc = .ok (.isub, 1)) (k : fk_W E nL n mp cs sl (pc + 1) lv (tI (x - y) :: st)) : fk_W E nL n mp cs sl pc lv (tI y :: tI x :: st) := by
  obtain ⟨p, l, e, R, s, m, args, below, meth, c, G, b0, Q⟩ := E
  obtain ⟨⟨⟨hx, hb, hml, hown, hts⟩, hK⟩, ⟨rfl, rfl, rfl⟩, hmn, hfr, hlo, hrc, hrs⟩ := X
  intro H locs ls hR hS hl
  exact lv_isub hx hb d (k H locs ls hR hS hl)
theorem fk_imul (X : fk_X E l0 G0 b00 own mn cc nL fr lo rc rs) {x y : Int32} (d : decode cc pc = .ok (.imul, 1)) (k : fk_W E nL n mp cs sl (pc + 1) lv (tI (x * y) :: st)) : fk_W E nL n mp cs sl pc lv (tI y :: tI x :: st) := by
  obtain ⟨p, l, e, R, s, m, args, below, meth, c, G, b0, Q⟩ := E
  obtain ⟨⟨⟨hx, hb, hml, hown, hts⟩, hK⟩, ⟨rfl, rfl, rfl⟩, hmn, hfr, hlo, hrc, hrs⟩ := X
  intro H locs ls hR hS hl
  exact lv_imul hx hb d (k H locs ls hR hS hl)
theorem fk_iand (X : fk_X E l0 G0 b00 own mn cc nL fr lo rc rs) {x y : Int32} (d : decode cc pc = .ok (.iand, 1)) (k : fk_W E nL n mp cs sl (pc + 1) lv (tI (x &&& y) :: st)) : fk_W E nL n mp cs sl pc lv (tI y :: tI x :: st) := by
  obtain ⟨p, l, e, R, s, m, args, below, meth, c, G, b0, Q⟩ := E
  obtain ⟨⟨⟨hx, hb, hml, hown, hts⟩, hK⟩, ⟨rfl, rfl, rfl⟩, hmn, hfr, hlo, hrc, hrs⟩ := X
  intro H locs ls hR hS hl
  exact lv_iand hx hb d (k H locs ls hR hS hl)
theorem fk_ior (X : fk_X E l0 G0 b00 own mn cc nL fr lo rc rs) {x y : Int32} (d : decode cc pc = .ok (.ior, 1)) (k : fk_W E nL n mp cs sl (pc + 1) lv (tI (x ||| y) :: st)) : fk_W E nL n mp cs sl pc lv (tI y :: tI x :: st) := by
  obtain ⟨p, l, e, R, s, m, args, below, meth, c, G, b0, Q⟩ := E
  obtain ⟨⟨⟨hx, hb, hml, hown, hts⟩, hK⟩, ⟨rfl, rfl, rfl⟩, hmn, hfr, hlo, hrc, hrs⟩ := X
  intro H locs ls hR hS hl
  exact lv_ior hx hb d (k H locs ls hR hS hl)
theorem fk_ixor (X : fk_X E l0 G0 b00 own mn cc nL fr lo rc rs) {x y : Int32} (d : decode cc pc = .ok (.ixor, 1)) (k : fk_W E nL n mp cs sl (pc + 1) lv (tI (x ^^^ y) :: st)) : fk_W E nL n mp cs sl pc lv (tI y :: tI x :: st) := by
  obtain ⟨p, l, e, R, s, m, args, below, meth, c, G, b0, Q⟩ := E
  obtain ⟨⟨⟨hx, hb, hml, hown, hts⟩, hK⟩, ⟨rfl, rfl, rfl⟩, hmn, hfr, hlo, hrc, hrs⟩ := X
  intro H locs ls hR hS hl
  exact lv_ixor hx hb d (k H locs ls hR hS hl)
theorem fk_ishl (X : fk_X E l0 G0 b00 own mn cc nL fr lo rc rs) {x y : Int32} (d : decode cc pc = .ok (.ishl, 1)) (k : fk_W E nL n mp cs sl (pc + 1) lv (tI (i_shl x y) :: st)) : fk_W E nL n mp cs sl pc lv (tI y :: tI x :: st) := by
  obtain ⟨p, l, e, R, s, m, args, below, meth, c, G, b0, Q⟩ := E
  obtain ⟨⟨⟨hx, hb, hml, hown, hts⟩, hK⟩, ⟨rfl, rfl, rfl⟩, hmn, hfr, hlo, hrc, hrs⟩ := X
  intro H locs ls hR hS hl
  exact lv_ishl hx hb d (k H locs ls hR hS hl)
theorem fk_ishr (X : fk_X E l0 G0 b00 own mn cc nL fr lo rc rs) {x y : Int32} (d : decode cc pc = .ok (.ishr, 1)) (k : fk_W E nL n mp cs sl (pc + 1) lv (tI (i_shr x y) :: st)) : fk_W E nL n mp cs sl pc lv (tI y :: tI x :: st) := by
  obtain ⟨p, l, e, R, s, m, args, below, meth, c, G, b0, Q⟩ := E
  obtain ⟨⟨⟨hx, hb, hml, hown, hts⟩, hK⟩, ⟨rfl, rfl, rfl⟩, hmn, hfr, hlo, hrc, hrs⟩ := X
  intro H locs ls hR hS hl
  exact lv_ishr hx hb d (k H locs ls hR hS hl)
theorem fk_iushr (X : fk_X E l0 G0 b00 own mn cc nL fr lo rc rs) {x y : Int32} (d : decode cc pc = .ok (.iushr, 1)) (k : fk_W E nL n mp cs sl (pc + 1) lv (tI (i_ushr x y) :: st)) : fk_W E nL n mp cs sl pc lv (tI y :: tI x :: st) := by
  obtain ⟨p, l, e, R, s, m, args, below, meth, c, G, b0, Q⟩ := E
  obtain ⟨⟨⟨hx, hb, hml, hown, hts⟩, hK⟩, ⟨rfl, rfl, rfl⟩, hmn, hfr, hlo, hrc, hrs⟩ := X
  intro H locs ls hR hS hl
  exact lv_iushr hx hb d rfl (k H locs ls hR hS hl)
theorem fk_idiv (X : fk_X E l0 G0 b00 own mn cc nL fr lo rc rs) {x y : Int32} (d : decode cc pc = .ok (.idiv, 1)) (h : ¬ y = 0) (k : fk_W E nL n mp cs sl (pc + 1) lv (tI (x / y) :: st)) : fk_W E nL n mp cs sl pc lv (tI y :: tI x :: st) := by
  obtain ⟨p, l, e, R, s, m, args, below, meth, c, G, b0, Q⟩ := E
  obtain ⟨⟨⟨hx, hb, hml, hown, hts⟩, hK⟩, ⟨rfl, rfl, rfl⟩, hmn, hfr, hlo, hrc, hrs⟩ := X
  intro H locs ls hR hS hl
  exact lv_idiv hx hb d h (k H locs ls hR hS hl)
theorem fk_irem (X : fk_X E l0 G0 b00 own mn cc nL fr lo rc rs) {x y : Int32} (d : decode cc pc = .ok (.irem, 1)) (h : ¬ y = 0) (k : fk_W E nL n mp cs sl (pc + 1) lv (tI (i_rem x y) :: st)) : fk_W E nL n mp cs sl pc lv (tI y :: tI x :: st) := by
  obtain ⟨p, l, e, R, s, m, args, below, meth, c, G, b0, Q⟩ := E
  obtain ⟨⟨⟨hx, hb, hml, hown, hts⟩, hK⟩, ⟨rfl, rfl, rfl⟩, hmn, hfr, hlo, hrc, hrs⟩ := X
  intro H locs ls hR hS hl
  exact lv_irem hx hb d h (k H locs ls hR hS hl)
theorem fk_ineg (X : fk_X E l0 G0 b00 own mn cc nL fr lo rc rs) {x : Int32} (d : decode cc pc = .ok (.ineg, 1)) (k : fk_W E nL n mp cs sl (pc + 1) lv (tI (-x) :: st)) : fk_W E nL n mp cs sl pc lv (tI x :: st) := by
  obtain ⟨p, l, e, R, s, m, args, below, meth, c, G, b0, Q⟩ := E
  obtain ⟨⟨⟨hx, hb, hml, hown, hts⟩, hK⟩, ⟨rfl, rfl, rfl⟩, hmn, hfr, hlo, hrc, hrs⟩ := X
  intro H locs ls hR hS hl
  exact lv_ineg hx hb d (k H locs ls hR hS hl)
theorem fk_ladd (X : fk_X E l0 G0 b00 own mn cc nL fr lo rc rs) {x y : Int64} (d : decode cc pc = .ok (.ladd, 1)) (k : fk_W E nL n mp cs sl (pc + 1) lv (tL (x + y) :: st)) : fk_W E nL n mp cs sl pc lv (tL y :: tL x :: st) := by
  obtain ⟨p, l, e, R, s, m, args, below, meth, c, G, b0, Q⟩ := E
  obtain ⟨⟨⟨hx, hb, hml, hown, hts⟩, hK⟩, ⟨rfl, rfl, rfl⟩, hmn, hfr, hlo, hrc, hrs⟩ := X
  intro H locs ls hR hS hl
  exact lv_ladd hx hb d (k H locs ls hR hS hl)
theorem fk_lsub (X : fk_X E l0 G0 b00 own mn cc nL fr lo rc rs) {x y : Int64} (d : decode cc pc = .ok (.lsub, 1)) (k : fk_W E nL n mp cs sl (pc + 1) lv (tL (x - y) :: st)) : fk_W E nL n mp cs sl pc lv (tL y :: tL x :: st) := by
  obtain ⟨p, l, e, R, s, m, args, below, meth, c, G, b0, Q⟩ := E
  obtain ⟨⟨⟨hx, hb, hml, hown, hts⟩, hK⟩, ⟨rfl, rfl, rfl⟩, hmn, hfr, hlo, hrc, hrs⟩ := X
  intro H locs ls hR hS hl
  exact lv_lsub hx hb d (k H locs ls hR hS hl)
theorem fk_lmul (X : fk_X E l0 G0 b00 own mn cc nL fr lo rc rs) {x y : Int64} (d : decode cc pc = .ok (.lmul, 1)) (k : fk_W E nL n mp cs sl (pc + 1) lv (tL (x * y) :: st)) : fk_W E nL n mp cs sl pc lv (tL y :: tL x :: st) := by
  obtain ⟨p, l, e, R, s, m, args, below, meth, c, G, b0, Q⟩ := E
  obtain ⟨⟨⟨hx, hb, hml, hown, hts⟩, hK⟩, ⟨rfl, rfl, rfl⟩, hmn, hfr, hlo, hrc, hrs⟩ := X
  intro H locs ls hR hS hl
  exact lv_lmul hx hb d (k H locs ls hR hS hl)
theorem fk_ldiv (X : fk_X E l0 G0 b00 own mn cc nL fr lo rc rs) {x y : Int64} (d : decode cc pc = .ok (.ldiv, 1)) (h : ¬ y = 0) (k : fk_W E nL n mp cs sl (pc + 1) lv (tL (x / y) :: st)) : fk_W E nL n mp cs sl pc lv (tL y :: tL x :: st) := by
  obtain ⟨p, l, e, R, s, m, args, below, meth, c, G, b0, Q⟩ := E
  obtain ⟨⟨⟨hx, hb, hml, hown, hts⟩, hK⟩, ⟨rfl, rfl, rfl⟩, hmn, hfr, hlo, hrc, hrs⟩ := X
  intro H locs ls hR hS hl
  exact lv_ldiv hx hb d h (k H locs ls hR hS hl)
theorem fk_lrem (X : fk_X E l0 G0 b00 own mn cc nL fr lo rc rs) {x y : Int64} (d : decode cc pc = .ok (.lrem, 1)) (h : ¬ y = 0) (k : fk_W E nL n mp cs sl (pc + 1) lv (tL (l_rem x y) :: st)) : fk_W E nL n mp cs sl pc lv (tL y :: tL x :: st) := by
  obtain ⟨p, l, e, R, s, m, args, below, meth, c, G, b0, Q⟩ := E
  obtain ⟨⟨⟨hx, hb, hml, hown, hts⟩, hK⟩, ⟨rfl, rfl, rfl⟩, hmn, hfr, hlo, hrc, hrs⟩ := X
  intro H locs ls hR hS hl
  exact lv_lrem hx hb d h (k H locs ls hR hS hl)
theorem fk_lcmp (X : fk_X E l0 G0 b00 own mn cc nL fr lo rc rs) {x y : Int64} (d : decode cc pc = .ok (.lcmp, 1)) (k : fk_W E nL n mp cs sl (pc + 1) lv (tI (lg_cmp x y) :: st)) : fk_W E nL n mp cs sl pc lv (tL y :: tL x :: st) := by
  obtain ⟨p, l, e, R, s, m, args, below, meth, c, G, b0, Q⟩ := E
  obtain ⟨⟨⟨hx, hb, hml, hown, hts⟩, hK⟩, ⟨rfl, rfl, rfl⟩, hmn, hfr, hlo, hrc, hrs⟩ := X
  intro H locs ls hR hS hl
  exact W.lcmp hx hb d (k H locs ls hR hS hl)
theorem fk_i2l (X : fk_X E l0 G0 b00 own mn cc nL fr lo rc rs) {x : Int32} (d : decode cc pc = .ok (.i2l, 1)) (k : fk_W E nL n mp cs sl (pc + 1) lv (tL x.toInt64 :: st)) : fk_W E nL n mp cs sl pc lv (tI x :: st) := by
  obtain ⟨p, l, e, R, s, m, args, below, meth, c, G, b0, Q⟩ := E
  obtain ⟨⟨⟨hx, hb, hml, hown, hts⟩, hK⟩, ⟨rfl, rfl, rfl⟩, hmn, hfr, hlo, hrc, hrs⟩ := X
  intro H locs ls hR hS hl
  exact lv_i2l hx hb d rfl (k H locs ls hR hS hl)
theorem fk_l2i (X : fk_X E l0 G0 b00 own mn cc nL fr lo rc rs) {x : Int64} (d : decode cc pc = .ok (.l2i, 1)) (k : fk_W E nL n mp cs sl (pc + 1) lv (tI x.toInt32 :: st)) : fk_W E nL n mp cs sl pc lv (tL x :: st) := by
  obtain ⟨p, l, e, R, s, m, args, below, meth, c, G, b0, Q⟩ := E
  obtain ⟨⟨⟨hx, hb, hml, hown, hts⟩, hK⟩, ⟨rfl, rfl, rfl⟩, hmn, hfr, hlo, hrc, hrs⟩ := X
  intro H locs ls hR hS hl
  exact lv_l2i hx hb d rfl (k H locs ls hR hS hl)
theorem fk_i2b (X : fk_X E l0 G0 b00 own mn cc nL fr lo rc rs) {x : Int32} (d : decode cc pc = .ok (.i2b, 1)) (k : fk_W E nL n mp cs sl (pc + 1) lv (tI (i_b x) :: st)) : fk_W E nL n mp cs sl pc lv (tI x :: st) := by
  obtain ⟨p, l, e, R, s, m, args, below, meth, c, G, b0, Q⟩ := E
  obtain ⟨⟨⟨hx, hb, hml, hown, hts⟩, hK⟩, ⟨rfl, rfl, rfl⟩, hmn, hfr, hlo, hrc, hrs⟩ := X
  intro H locs ls hR hS hl
  exact lv_i2b hx hb d rfl (k H locs ls hR hS hl)
theorem fk_i2s (X : fk_X E l0 G0 b00 own mn cc nL fr lo rc rs) {x : Int32} (d : decode cc pc = .ok (.i2s, 1)) (k : fk_W E nL n mp cs sl (pc + 1) lv (tI (i_s x) :: st)) : fk_W E nL n mp cs sl pc lv (tI x :: st) := by
  obtain ⟨p, l, e, R, s, m, args, below, meth, c, G, b0, Q⟩ := E
  obtain ⟨⟨⟨hx, hb, hml, hown, hts⟩, hK⟩, ⟨rfl, rfl, rfl⟩, hmn, hfr, hlo, hrc, hrs⟩ := X
  intro H locs ls hR hS hl
  exact lv_i2s hx hb d rfl (k H locs ls hR hS hl)
theorem fk_i2c (X : fk_X E l0 G0 b00 own mn cc nL fr lo rc rs) {x : Int32} (d : decode cc pc = .ok (.i2c, 1)) (k : fk_W E nL n mp cs sl (pc + 1) lv (tI (i_c x) :: st)) : fk_W E nL n mp cs sl pc lv (tI x :: st) := by
  obtain ⟨p, l, e, R, s, m, args, below, meth, c, G, b0, Q⟩ := E
  obtain ⟨⟨⟨hx, hb, hml, hown, hts⟩, hK⟩, ⟨rfl, rfl, rfl⟩, hmn, hfr, hlo, hrc, hrs⟩ := X
  intro H locs ls hR hS hl
  exact lv_i2c hx hb d rfl (k H locs ls hR hS hl)
theorem fk_pop (X : fk_X E l0 G0 b00 own mn cc nL fr lo rc rs) {a : fk_T} (d : decode cc pc = .ok (.pop, 1)) (ha : fk_2 a = false) (k : fk_W E nL n mp cs sl (pc + 1) lv st) : fk_W E nL n mp cs sl pc lv (a :: st) := by
  obtain ⟨p, l, e, R, s, m, args, below, meth, c, G, b0, Q⟩ := E
  obtain ⟨⟨⟨hx, hb, hml, hown, hts⟩, hK⟩, ⟨rfl, rfl, rfl⟩, hmn, hfr, hlo, hrc, hrs⟩ := X
  intro H locs ls hR hS hl
  exact lv_pop hx hb d (by rw [fk_cat, ha]; rfl) (k H locs ls hR hS hl)
theorem fk_dup (X : fk_X E l0 G0 b00 own mn cc nL fr lo rc rs) {a : fk_T} (d : decode cc pc = .ok (.dup, 1)) (ha : fk_2 a = false) (k : fk_W E nL n mp cs sl (pc + 1) lv (a :: a :: st)) : fk_W E nL n mp cs sl pc lv (a :: st) := by
  obtain ⟨p, l, e, R, s, m, args, below, meth, c, G, b0, Q⟩ := E
  obtain ⟨⟨⟨hx, hb, hml, hown, hts⟩, hK⟩, ⟨rfl, rfl, rfl⟩, hmn, hfr, hlo, hrc, hrs⟩ := X
  intro H locs ls hR hS hl
  exact lv_dup hx hb d (by rw [fk_cat, ha]; rfl) (k H locs ls hR hS hl)
theorem fk_dup_x1 (X : fk_X E l0 G0 b00 own mn cc nL fr lo rc rs) {a b : fk_T} (d : decode cc pc = .ok (.dup_x1, 1)) (ha : fk_2 a = false) (hb2 : fk_2 b = false) (k : fk_W E nL n mp cs sl (pc + 1) lv (a :: b :: a :: st)) : fk_W E nL n mp cs sl pc lv (a :: b :: st) := by
  obtain ⟨p, l, e, R, s, m, args, below, meth, c, G, b0, Q⟩ := E
  obtain ⟨⟨⟨hx, hb, hml, hown, hts⟩, hK⟩, ⟨rfl, rfl, rfl⟩, hmn, hfr, hlo, hrc, hrs⟩ := X
  intro H locs ls hR hS hl
  exact lv_dup_x1 hx hb d (by rw [fk_cat, ha]; rfl) (by rw [fk_cat, hb2]; rfl) (k H locs ls hR hS hl)
theorem fk_dup_x2 (X : fk_X E l0 G0 b00 own mn cc nL fr lo rc rs) {a b g : fk_T} (d : decode cc pc = .ok (.dup_x2, 1)) (ha : fk_2 a = false) (hb2 : fk_2 b = false) (hc2 : fk_2 g = false) (k : fk_W E nL n mp cs sl (pc + 1) lv (a :: b :: g :: a :: st)) : fk_W E nL n mp cs sl pc lv (a :: b :: g :: st) := by
  obtain ⟨p, l, e, R, s, m, args, below, meth, c, G, b0, Q⟩ := E
  obtain ⟨⟨⟨hx, hb, hml, hown, hts⟩, hK⟩, ⟨rfl, rfl, rfl⟩, hmn, hfr, hlo, hrc, hrs⟩ := X
  intro H locs ls hR hS hl
  exact lv_dup_x2 hx hb d (by rw [fk_cat, ha]; rfl) (by rw [fk_cat, hb2]; rfl) (by rw [fk_cat, hc2]; rfl) (k H locs ls hR hS hl)
theorem fk_dup2 (X : fk_X E l0 G0 b00 own mn cc nL fr lo rc rs) {a b : fk_T} (d : decode cc pc = .ok (.dup2, 1)) (ha : fk_2 a = false) (hb2 : fk_2 b = false) (k : fk_W E nL n mp cs sl (pc + 1) lv (a :: b :: a :: b :: st)) : fk_W E nL n mp cs sl pc lv (a :: b :: st) := by
  obtain ⟨p, l, e, R, s, m, args, below, meth, c, G, b0, Q⟩ := E
  obtain ⟨⟨⟨hx, hb, hml, hown, hts⟩, hK⟩, ⟨rfl, rfl, rfl⟩, hmn, hfr, hlo, hrc, hrs⟩ := X
  intro H locs ls hR hS hl
  exact lv_dup2_11 hx hb d (by rw [fk_cat, ha]; rfl) (by rw [fk_cat, hb2]; rfl) (k H locs ls hR hS hl)
theorem fk_if_eq (X : fk_X E l0 G0 b00 own mn cc nL fr lo rc rs) {x : Int32} {off : Int} (tgt : Nat) (d : decode cc pc = .ok (.ifCond .eq off, 3)) (ht : (pc : Int) + off = (tgt : Int)) (k1 : x = 0 → fk_W E nL n mp cs sl tgt lv st) (k2 : ¬ x = 0 → fk_W E nL n mp cs sl (pc + 3) lv st) : fk_W E nL n mp cs sl pc lv (tI x :: st) := by
  obtain ⟨p, l, e, R, s, m, args, below, meth, c, G, b0, Q⟩ := E
  obtain ⟨⟨⟨hx, hb, hml, hown, hts⟩, hK⟩, ⟨rfl, rfl, rfl⟩, hmn, hfr, hlo, hrc, hrs⟩ := X
  intro H locs ls hR hS hl
  exact lv_if_eq hx hb d ht (fun h => k1 h H locs ls hR hS hl) (fun h => k2 h H locs ls hR hS hl)
theorem fk_icmp_eq (X : fk_X E l0 G0 b00 own mn cc nL fr lo rc rs) {x y : Int32} {off : Int} (tgt : Nat) (d : decode cc pc = .ok (.if_icmp .eq off, 3)) (ht : (pc : Int) + off = (tgt : Int)) (k1 : x = y → fk_W E nL n mp cs sl tgt lv st) (k2 : ¬ x = y → fk_W E nL n mp cs sl (pc + 3) lv st) : fk_W E nL n mp cs sl pc lv (tI y :: tI x :: st) := by
  obtain ⟨p, l, e, R, s, m, args, below, meth, c, G, b0, Q⟩ := E
  obtain ⟨⟨⟨hx, hb, hml, hown, hts⟩, hK⟩, ⟨rfl, rfl, rfl⟩, hmn, hfr, hlo, hrc, hrs⟩ := X
  intro H locs ls hR hS hl
  exact lv_icmp_eq hx hb d ht (fun h => k1 h H locs ls hR hS hl) (fun h => k2 h H locs ls hR hS hl)
theorem fk_if_ne (X : fk_X E l0 G0 b00 own mn cc nL fr lo rc rs) {x : Int32} {off : Int} (tgt : Nat) (d : decode cc pc = .ok (.ifCond .ne off, 3)) (ht : (pc : Int) + off = (tgt : Int)) (k1 : ¬ x = 0 → fk_W E nL n mp cs sl tgt lv st) (k2 : x = 0 → fk_W E nL n mp cs sl (pc + 3) lv st) : fk_W E nL n mp cs sl pc lv (tI x :: st) := by
  obtain ⟨p, l, e, R, s, m, args, below, meth, c, G, b0, Q⟩ := E
  obtain ⟨⟨⟨hx, hb, hml, hown, hts⟩, hK⟩, ⟨rfl, rfl, rfl⟩, hmn, hfr, hlo, hrc, hrs⟩ := X
  intro H locs ls hR hS hl
  exact lv_if_ne hx hb d ht (fun h => k1 h H locs ls hR hS hl) (fun h => k2 h H locs ls hR hS hl)
theorem fk_icmp_ne (X : fk_X E l0 G0 b00 own mn cc nL fr lo rc rs) {x y : Int32} {off : Int} (tgt : Nat) (d : decode cc pc = .ok (.if_icmp .ne off, 3)) (ht : (pc : Int) + off = (tgt : Int)) (k1 : ¬ x = y → fk_W E nL n mp cs sl tgt lv st) (k2 : x = y → fk_W E nL n mp cs sl (pc + 3) lv st) : fk_W E nL n mp cs sl pc lv (tI y :: tI x :: st) := by
  obtain ⟨p, l, e, R, s, m, args, below, meth, c, G, b0, Q⟩ := E
  obtain ⟨⟨⟨hx, hb, hml, hown, hts⟩, hK⟩, ⟨rfl, rfl, rfl⟩, hmn, hfr, hlo, hrc, hrs⟩ := X
  intro H locs ls hR hS hl
  exact lv_icmp_ne hx hb d ht (fun h => k1 h H locs ls hR hS hl) (fun h => k2 h H locs ls hR hS hl)
theorem fk_if_lt (X : fk_X E l0 G0 b00 own mn cc nL fr lo rc rs) {x : Int32} {off : Int} (tgt : Nat) (d : decode cc pc = .ok (.ifCond .lt off, 3)) (ht : (pc : Int) + off = (tgt : Int)) (k1 : x < 0 → fk_W E nL n mp cs sl tgt lv st) (k2 : ¬ x < 0 → fk_W E nL n mp cs sl (pc + 3) lv st) : fk_W E nL n mp cs sl pc lv (tI x :: st) := by
  obtain ⟨p, l, e, R, s, m, args, below, meth, c, G, b0, Q⟩ := E
  obtain ⟨⟨⟨hx, hb, hml, hown, hts⟩, hK⟩, ⟨rfl, rfl, rfl⟩, hmn, hfr, hlo, hrc, hrs⟩ := X
  intro H locs ls hR hS hl
  exact lv_if_lt hx hb d ht (fun h => k1 h H locs ls hR hS hl) (fun h => k2 h H locs ls hR hS hl)
theorem fk_icmp_lt (X : fk_X E l0 G0 b00 own mn cc nL fr lo rc rs) {x y : Int32} {off : Int} (tgt : Nat) (d : decode cc pc = .ok (.if_icmp .lt off, 3)) (ht : (pc : Int) + off = (tgt : Int)) (k1 : x < y → fk_W E nL n mp cs sl tgt lv st) (k2 : ¬ x < y → fk_W E nL n mp cs sl (pc + 3) lv st) : fk_W E nL n mp cs sl pc lv (tI y :: tI x :: st) := by
  obtain ⟨p, l, e, R, s, m, args, below, meth, c, G, b0, Q⟩ := E
  obtain ⟨⟨⟨hx, hb, hml, hown, hts⟩, hK⟩, ⟨rfl, rfl, rfl⟩, hmn, hfr, hlo, hrc, hrs⟩ := X
  intro H locs ls hR hS hl
  exact lv_icmp_lt hx hb d ht (fun h => k1 h H locs ls hR hS hl) (fun h => k2 h H locs ls hR hS hl)
theorem fk_if_ge (X : fk_X E l0 G0 b00 own mn cc nL fr lo rc rs) {x : Int32} {off : Int} (tgt : Nat) (d : decode cc pc = .ok (.ifCond .ge off, 3)) (ht : (pc : Int) + off = (tgt : Int)) (k1 : 0 ≤ x → fk_W E nL n mp cs sl tgt lv st) (k2 : ¬ 0 ≤ x → fk_W E nL n mp cs sl (pc + 3) lv st) : fk_W E nL n mp cs sl pc lv (tI x :: st) := by
  obtain ⟨p, l, e, R, s, m, args, below, meth, c, G, b0, Q⟩ := E
  obtain ⟨⟨⟨hx, hb, hml, hown, hts⟩, hK⟩, ⟨rfl, rfl, rfl⟩, hmn, hfr, hlo, hrc, hrs⟩ := X
  intro H locs ls hR hS hl
  exact lv_if_ge hx hb d ht (fun h => k1 h H locs ls hR hS hl) (fun h => k2 h H locs ls hR hS hl)
theorem fk_icmp_ge (X : fk_X E l0 G0 b00 own mn cc nL fr lo rc rs) {x y : Int32} {off : Int} (tgt : Nat) (d : decode cc pc = .ok (.if_icmp .ge off, 3)) (ht : (pc : Int) + off = (tgt : Int)) (k1 : y ≤ x → fk_W E nL n mp cs sl tgt lv st) (k2 : ¬ y ≤ x → fk_W E nL n mp cs sl (pc + 3) lv st) : fk_W E nL n mp cs sl pc lv (tI y :: tI x :: st) := by
  obtain ⟨p, l, e, R, s, m, args, below, meth, c, G, b0, Q⟩ := E
  obtain ⟨⟨⟨hx, hb, hml, hown, hts⟩, hK⟩, ⟨rfl, rfl, rfl⟩, hmn, hfr, hlo, hrc, hrs⟩ := X
  intro H locs ls hR hS hl
  exact lv_icmp_ge hx hb d ht (fun h => k1 h H locs ls hR hS hl) (fun h => k2 h H locs ls hR hS hl)
theorem fk_if_gt (X : fk_X E l0 G0 b00 own mn cc nL fr lo rc rs) {x : Int32} {off : Int} (tgt : Nat) (d : decode cc pc = .ok (.ifCond .gt off, 3)) (ht : (pc : Int) + off = (tgt : Int)) (k1 : 0 < x → fk_W E nL n mp cs sl tgt lv st) (k2 : ¬ 0 < x → fk_W E nL n mp cs sl (pc + 3) lv st) : fk_W E nL n mp cs sl pc lv (tI x :: st) := by
  obtain ⟨p, l, e, R, s, m, args, below, meth, c, G, b0, Q⟩ := E
  obtain ⟨⟨⟨hx, hb, hml, hown, hts⟩, hK⟩, ⟨rfl, rfl, rfl⟩, hmn, hfr, hlo, hrc, hrs⟩ := X
  intro H locs ls hR hS hl
  exact lv_if_gt hx hb d ht (fun h => k1 h H locs ls hR hS hl) (fun h => k2 h H locs ls hR hS hl)
theorem fk_icmp_gt (X : fk_X E l0 G0 b00 own mn cc nL fr lo rc rs) {x y : Int32} {off : Int} (tgt : Nat) (d : decode cc pc = .ok (.if_icmp .gt off, 3)) (ht : (pc : Int) + off = (tgt : Int)) (k1 : y < x → fk_W E nL n mp cs sl tgt lv st) (k2 : ¬ y < x → fk_W E nL n mp cs sl (pc + 3) lv st) : fk_W E nL n mp cs sl pc lv (tI y :: tI x :: st) := by
  obtain ⟨p, l, e, R, s, m, args, below, meth, c, G, b0, Q⟩ := E
  obtain ⟨⟨⟨hx, hb, hml, hown, hts⟩, hK⟩, ⟨rfl, rfl, rfl⟩, hmn, hfr, hlo, hrc, hrs⟩ := X
  intro H locs ls hR hS hl
  exact lv_icmp_gt hx hb d ht (fun h => k1 h H locs ls hR hS hl) (fun h => k2 h H locs ls hR hS hl)
theorem fk_if_le (X : fk_X E l0 G0 b00 own mn cc nL fr lo rc rs) {x : Int32} {off : Int} (tgt : Nat) (d : decode cc pc = .ok (.ifCond .le off, 3)) (ht : (pc : Int) + off = (tgt : Int)) (k1 : x ≤ 0 → fk_W E nL n mp cs sl tgt lv st) (k2 : ¬ x ≤ 0 → fk_W E nL n mp cs sl (pc + 3) lv st) : fk_W E nL n mp cs sl pc lv (tI x :: st) := by
  obtain ⟨p, l, e, R, s, m, args, below, meth, c, G, b0, Q⟩ := E
  obtain ⟨⟨⟨hx, hb, hml, hown, hts⟩, hK⟩, ⟨rfl, rfl, rfl⟩, hmn, hfr, hlo, hrc, hrs⟩ := X
  intro H locs ls hR hS hl
  exact lv_if_le hx hb d ht (fun h => k1 h H locs ls hR hS hl) (fun h => k2 h H locs ls hR hS hl)
theorem fk_icmp_le (X : fk_X E l0 G0 b00 own mn cc nL fr lo rc rs) {x y : Int32} {off : Int} (tgt : Nat) (d : decode cc pc = .ok (.if_icmp .le off, 3)) (ht : (pc : Int) + off = (tgt : Int)) (k1 : x ≤ y → fk_W E nL n mp cs sl tgt lv st) (k2 : ¬ x ≤ y → fk_W E nL n mp cs sl (pc + 3) lv st) : fk_W E nL n mp cs sl pc lv (tI y :: tI x :: st) := by
  obtain ⟨p, l, e, R, s, m, args, below, meth, c, G, b0, Q⟩ := E
  obtain ⟨⟨⟨hx, hb, hml, hown, hts⟩, hK⟩, ⟨rfl, rfl, rfl⟩, hmn, hfr, hlo, hrc, hrs⟩ := X
  intro H locs ls hR hS hl
  exact lv_icmp_le hx hb d ht (fun h => k1 h H locs ls hR hS hl) (fun h => k2 h H locs ls hR hS hl)
theorem fk_goto (X : fk_X E l0 G0 b00 own mn cc nL fr lo rc rs) {off : Int} (tgt : Nat) (d : decode cc pc = .ok (.goto off, 3)) (ht : (pc : Int) + off = (tgt : Int)) (k : fk_W E nL n mp cs sl tgt lv st) : fk_W E nL n mp cs sl pc lv st := by
  obtain ⟨p, l, e, R, s, m, args, below, meth, c, G, b0, Q⟩ := E
  obtain ⟨⟨⟨hx, hb, hml, hown, hts⟩, hK⟩, ⟨rfl, rfl, rfl⟩, hmn, hfr, hlo, hrc, hrs⟩ := X
  intro H locs ls hR hS hl
  exact lv_goto hx hb d ht (k H locs ls hR hS hl)
theorem fk_ifnull (X : fk_X E l0 G0 b00 own mn cc nL fr lo rc rs) {q : Option Nat} {off : Int} (tgt : Nat) (d : decode cc pc = .ok (.ifnull off, 3)) (ht : (pc : Int) + off = (tgt : Int)) (k1 : q = none → fk_W E nL n mp cs sl tgt lv st) (k2 : ¬ q = none → fk_W E nL n mp cs sl (pc + 3) lv st) : fk_W E nL n mp cs sl pc lv (tR q :: st) := by
  obtain ⟨p, l, e, R, s, m, args, below, meth, c, G, b0, Q⟩ := E
  obtain ⟨⟨⟨hx, hb, hml, hown, hts⟩, hK⟩, ⟨rfl, rfl, rfl⟩, hmn, hfr, hlo, hrc, hrs⟩ := X
  intro H locs ls hR hS hl
  cases q with
  | none => exact lv_ifnullN hx hb d ht (k1 rfl H locs ls hR hS hl)
  | some a => exact lv_ifnull hx hb d (k2 (fun h => by cases h) H locs ls hR hS hl)
theorem fk_ifnonnull (X : fk_X E l0 G0 b00 own mn cc nL fr lo rc rs) {q : Option Nat} {off : Int} (tgt : Nat) (d : decode cc pc = .ok (.ifnonnull off, 3)) (ht : (pc : Int) + off = (tgt : Int)) (k1 : ¬ q = none → fk_W E nL n mp cs sl tgt lv st) (k2 : q = none → fk_W E nL n mp cs sl (pc + 3) lv st) : fk_W E nL n mp cs sl pc lv (tR q :: st) := by
  obtain ⟨p, l, e, R, s, m, args, below, meth, c, G, b0, Q⟩ := E
  obtain ⟨⟨⟨hx, hb, hml, hown, hts⟩, hK⟩, ⟨rfl, rfl, rfl⟩, hmn, hfr, hlo, hrc, hrs⟩ := X
  intro H locs ls hR hS hl
  cases q with
  | none => exact lv_ifnonnullN hx hb d (k2 rfl H locs ls hR hS hl)
  | some a => exact lv_ifnonnull hx hb d ht (k1 (fun h => by cases h) H locs ls hR hS hl)
theorem fk_acmp_eq (X : fk_X E l0 G0 b00 own mn cc nL fr lo rc rs) {q1 q2 : Option Nat} {off : Int} (tgt : Nat) (d : decode cc pc = .ok (.if_acmp .eq off, 3)) (ht : (pc : Int) + off = (tgt : Int)) (k1 : q1 = q2 → fk_W E nL n mp cs sl tgt lv st) (k2 : ¬ q1 = q2 → fk_W E nL n mp cs sl (pc + 3) lv st) : fk_W E nL n mp cs sl pc lv (tR q2 :: tR q1 :: st) := by
  obtain ⟨p, l, e, R, s, m, args, below, meth, c, G, b0, Q⟩ := E
  obtain ⟨⟨⟨hx, hb, hml, hown, hts⟩, hK⟩, ⟨rfl, rfl, rfl⟩, hmn, hfr, hlo, hrc, hrs⟩ := X
  intro H locs ls hR hS hl
  exact lv_acmp_eq hx hb d ht (fun h => k1 h H locs ls hR hS hl) (fun h => k2 h H locs ls hR hS hl)
theorem fk_acmp_ne (X : fk_X E l0 G0 b00 own mn cc nL fr lo rc rs) {q1 q2 : Option Nat} {off : Int} (tgt : Nat) (d : decode cc pc = .ok (.if_acmp .ne off, 3)) (ht : (pc : Int) + off = (tgt : Int)) (k1 : ¬ q1 = q2 → fk_W E nL n mp cs sl tgt lv st) (k2 : q1 = q2 → fk_W E nL n mp cs sl (pc + 3) lv st) : fk_W E nL n mp cs sl pc lv (tR q2 :: tR q1 :: st) := by
  obtain ⟨p, l, e, R, s, m, args, below, meth, c, G, b0, Q⟩ := E
  obtain ⟨⟨⟨hx, hb, hml, hown, hts⟩, hK⟩, ⟨rfl, rfl, rfl⟩, hmn, hfr, hlo, hrc, hrs⟩ := X
  intro H locs ls hR hS hl
  exact lv_acmp_ne hx hb d ht (fun h => k1 h H locs ls hR hS hl) (fun h => k2 h H locs ls hR hS hl)
theorem fk_tableOut (X : fk_X E l0 G0 b00 own mn cc nL fr lo rc rs) {dflt lo2 hi : Int} {offs : Array Int} {len : Nat} {x : Int32} (tgt : Nat) (d : decode cc pc = .ok (.tableswitch dflt lo2 hi offs, len)) (h : x.toInt < lo2 ∨ hi < x.toInt) (ht : (pc : Int) + dflt = (tgt : Int)) (k : fk_W E nL n mp cs sl tgt lv st) : fk_W E nL n mp cs sl pc lv (tI x :: st) := by
  obtain ⟨p, l, e, R, s, m, args, below, meth, c, G, b0, Q⟩ := E
  obtain ⟨⟨⟨hx, hb, hml, hown, hts⟩, hK⟩, ⟨rfl, rfl, rfl⟩, hmn, hfr, hlo, hrc, hrs⟩ := X
  intro H locs ls hR hS hl
  exact lv_tableOut hx hb d h ht (k H locs ls hR hS hl)
theorem fk_tableIn (X : fk_X E l0 G0 b00 own mn cc nL fr lo rc rs) {dflt lo2 hi : Int} {offs : Array Int} {len : Nat} {x : Int32} {off : Int} (tgt : Nat) (d : decode cc pc = .ok (.tableswitch dflt lo2 hi offs, len)) (h1 : ¬ x.toInt < lo2) (h2 : ¬ hi < x.toInt) (ho : offs[(x.toInt - lo2).toNat]? = some off) (ht : (pc : Int) + off = (tgt : Int)) (k : fk_W E nL n mp cs sl tgt lv st) : fk_W E nL n mp cs sl pc lv (tI x :: st) := by
  obtain ⟨p, l, e, R, s, m, args, below, meth, c, G, b0, Q⟩ := E
  obtain ⟨⟨⟨hx, hb, hml, hown, hts⟩, hK⟩, ⟨rfl, rfl, rfl⟩, hmn, hfr, hlo, hrc, hrs⟩ := X
  intro H locs ls hR hS hl
  exact lv_tableIn hx hb d h1 h2 ho ht (k H locs ls hR hS hl)
theorem fk_lookup (X : fk_X E l0 G0 b00 own mn cc nL fr lo rc rs) {dflt : Int} {ps : Array (Int × Int)} {len : Nat} {x : Int32} {off : Int} (tgt : Nat) (d : decode cc pc = .ok (.lookupswitch dflt ps, len)) (hp : (ps.toList.zip (ps.toList.drop 1)).all (fun (a, next) => a.1 < next.1) = true) (ho : Op.lookupswitch.offset ps.toList dflt x.toInt = off) (ht : (pc : Int) + off = (tgt : Int)) (k : fk_W E nL n mp cs sl tgt lv st) : fk_W E nL n mp cs sl pc lv (tI x :: st) := by
  obtain ⟨p, l, e, R, s, m, args, below, meth, c, G, b0, Q⟩ := E
  obtain ⟨⟨⟨hx, hb, hml, hown, hts⟩, hK⟩, ⟨rfl, rfl, rfl⟩, hmn, hfr, hlo, hrc, hrs⟩ := X
  intro H locs ls hR hS hl
  exact lv_lookup hx hb d hp ho ht (k H locs ls hR hS hl)
end FKR
