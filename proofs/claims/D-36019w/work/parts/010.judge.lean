/-! THE JUDGEMENT: kr_J .. P cells slots pc locals stack: from any heap with P the machine comes to Q. Rows of the kit, turned to it. -/
set_option maxRecDepth 100000
abbrev kr_X : Type := Program × Launch × Env × Room × State × MethodId × Array Value × List Frame × Method × Code
/-- what is fixed for a whole run: classes' ids and slots; array classes; lambda classes; the law's start -/
abbrev kr_G : Type := va_G × (Nat → ClassId) × (Nat → ClassId) × State
abbrev kg_D (G : kr_G) : va_G := G.1
abbrev kg_A (G : kr_G) : Nat → ClassId := G.2.1
abbrev kg_L (G : kr_G) : Nat → ClassId := G.2.2.1
abbrev kg_s (G : kr_G) : State := G.2.2.2
abbrev kx_l (x : kr_X) : Launch := x.2.1
abbrev kx_R (x : kr_X) : Room := x.2.2.2.1
abbrev kx_s (x : kr_X) : State := x.2.2.2.2.1
abbrev kx_m (x : kr_X) : MethodId := x.2.2.2.2.2.1
abbrev kx_a (x : kr_X) : Array Value := x.2.2.2.2.2.2.1
abbrev kx_b (x : kr_X) : List Frame := x.2.2.2.2.2.2.2.1
abbrev kx_me (x : kr_X) : Method := x.2.2.2.2.2.2.2.2.1
abbrev kx_c (x : kr_X) : Code := x.2.2.2.2.2.2.2.2.2
def kr_old (G : kr_G) (q : Nat) : Prop := (kg_s G).heap.size ≤ q
/-- the law's start: its words, what the Statement gives, the flags; classes known -/
def kr_F (G : kr_G) (l : Launch) : Prop :=
  (∃ b : Nat, (∀ w ∈ lw_tbl, w.before #[Value.ref b] (kg_s G) = true) ∧ (Jvm.Cond.and given_1 narrow_1).before #[Value.ref b] (kg_s G) = true) ∧
  l.flags = flags0 ∧ va_K (kg_D G) kr_cl (kr_tys (kg_A G)) (kg_s G) ∧ ∀ k, k < 8 → kr_siteAt (kr_site k) (kg_L G k) (kg_s G)
/-- the heap is the start's where the start had cells -/
def kr_base (G : kr_G) (H : Heap) : Prop := (kg_s G).heap.size ≤ H.size ∧ ∀ q : Nat, q < (kg_s G).heap.size → H[q]? = (kg_s G).heap[q]?
/-- a method's body: its code, words, room, handlers -/
def kr_C (G : kr_G) (x : kr_X) (y : MethodName) (cc : ByteArray) (nL : Nat) (ret : Option FieldType) (rm : Room) (hh : List (Nat × Nat × Nat × Nat)) : Prop :=
  x.1.tables.exec = Jvm.exec ∧ (kx_c x).code = cc ∧ (kx_c x).maxLocals = nL ∧ (kx_s x).vm.findClass y.cls = some (kx_m x).cls ∧ (∀ w ∈ lw_all, w.before (kx_a x) (kx_s x) = true) ∧
  (kg_s G).WarmedH (kx_s x).vm ∧ (kx_me x).locks = false ∧ (kx_me x).sig.returnType = ret ∧ kx_R x = rm ∧ kr_base G (kx_s x).heap ∧ kr_F G (kx_l x) ∧ (kx_me x).name = y.name ∧ (kx_c x).exceptionTable.toList = tableOf hh ∧ (kx_s x).methodNamed? y = some (kx_m x)
def kr_L (ls : Array Slot) (nL : Nat) (lv : List (Option Value)) : Prop := ls.size = nL ∧ lv_wf ls ∧ ∀ (i : Nat) (v : Value), lv[i]? = some (some v) → ls[i]? = some (.val v)
def kr_W (x : kr_X) (H : Heap) (locs : List Loc) (cs ss : Nat) (Q : State → Prop) (g : JFrame) : Prop :=
  W x.1 x.2.1 x.2.2.1 x.2.2.2.1 x.2.2.2.2.1 x.2.2.2.2.2.1 x.2.2.2.2.2.2.1 x.2.2.2.2.2.2.2.1 x.2.2.2.2.2.2.2.2.1 x.2.2.2.2.2.2.2.2.2 H locs cs ss Q g
def kr_J (G : kr_G) (x : kr_X) (nL : Nat) (Q : State → Prop) (P : Heap → Prop) (cs ss pc : Nat) (lv : List (Option Value)) (st : List Value) : Prop :=
  ∀ (H : Heap) (locs : List Loc) (ls : Array Slot), P H → va_S (kr_old G) (kx_s x).heap H locs → kr_L ls nL lv → kr_W x H locs cs ss Q (F0 (kx_m x) pc ls st)
/-- a throwable of the class E is on its way, thrown at pc -/
def kr_JX (G : kr_G) (x : kr_X) (nL : Nat) (Q : State → Prop) (P : Heap → Prop) (cs ss pc : Nat) (lv : List (Option Value)) (E : String) : Prop :=
  ∀ (H : Heap) (locs : List Loc) (ls : Array Slot) (q : Nat) (ce : Cell) (rest : List Value), P H → va_S (kr_old G) (kx_s x).heap H locs → kr_L ls nL lv → H[q]? = some ce → ce.vm = .none → (kx_s x).vm.findClass E = some ce.cls →
    vx_W x.1 x.2.1 x.2.2.1 x.2.2.2.1 x.2.2.2.2.1 x.2.2.2.2.2.1 x.2.2.2.2.2.2.1 x.2.2.2.2.2.2.2.1 x.2.2.2.2.2.2.2.2.1 x.2.2.2.2.2.2.2.2.2 H locs cs ss Q (F0 (kx_m x) pc ls rest) q
theorem kr_cat (r : Option Nat) : (va_rf r).category = 1 := by cases r <;> rfl
def kr_assoc (lv : List (Option Value)) : List (Nat × Value) := (List.range lv.length).filterMap fun i => (lv[i]?.join).map fun v => (i, v)
theorem kr_mem_assoc {lv : List (Option Value)} {i : Nat} {v : Value} : (i, v) ∈ kr_assoc lv ↔ lv[i]? = some (some v) := by
  unfold kr_assoc
  rw [List.mem_filterMap]
  constructor
  · rintro ⟨j, hj, h⟩
    cases hl : lv[j]? with
    | none => rw [hl] at h; cases h
    | some o =>
      cases o with
      | none => rw [hl] at h; cases h
      | some w =>
        rw [hl] at h
        simp only [Option.join_some, Option.map_some, Option.some.injEq, Prod.mk.injEq] at h
        obtain ⟨rfl, rfl⟩ := h
        exact hl
  · intro h
    refine ⟨i, List.mem_range.mpr (List.getElem?_eq_some_iff.mp h).1, ?_⟩
    rw [h]
    rfl
theorem kr_L.has {ls : Array Slot} {nL : Nat} {lv : List (Option Value)} (h : kr_L ls nL lv) : lv_has ls nL (kr_assoc lv) :=
  ⟨h.1, h.2.1, fun q hq => h.2.2 q.1 q.2 (kr_mem_assoc.mp hq)⟩
theorem kr_L.one {ls : Array Slot} {nL i : Nat} {lv : List (Option Value)} {v : Value} (h : lv_has ls nL ((i, v) :: (kr_assoc lv).filter (fun q => !(q.1 == i) && !(q.1 + 1 == i && q.2.category == 2))))
    (hlow : ∀ w : Value, lv[i - 1]? = some (some w) → 0 < i → w.category = 1) : kr_L ls nL (lv.set i (some v)) := by
  refine ⟨h.1, h.2.1, fun j w hj => ?_⟩
  rw [List.getElem?_set] at hj
  by_cases hij : i = j
  · rw [if_pos hij] at hj
    by_cases hl : j < lv.length
    · rw [if_pos (by omega)] at hj
      cases hj
      have := h.2.2 (i, v) List.mem_cons_self
      rw [← hij]
      exact this
    · rw [if_neg (by omega)] at hj
      cases hj
  · rw [if_neg hij] at hj
    refine h.2.2 (j, w) (List.mem_cons_of_mem _ (List.mem_filter.mpr ⟨kr_mem_assoc.mpr hj, ?_⟩))
    have e1 : (j == i) = false := by simp; omega
    by_cases e2 : j + 1 = i
    · have hw : w.category = 1 := hlow w (by rw [← e2, Nat.add_sub_cancel]; exact hj) (by omega)
      simp [e1, hw]
    · have e3 : (j + 1 == i) = false := by simp; omega
      simp [e1, e3]
theorem kr_L.two {ls : Array Slot} {nL i : Nat} {lv : List (Option Value)} {v : Value} (h : lv_has ls nL ((i, v) :: (kr_assoc lv).filter (fun q => !(q.1 == i) && (!(q.1 == i + 1) && !(q.1 + 1 == i && q.2.category == 2)))))
    (hlow : ∀ w : Value, lv[i - 1]? = some (some w) → 0 < i → w.category = 1) : kr_L ls nL ((lv.set i (some v)).set (i + 1) none) := by
  refine ⟨h.1, h.2.1, fun j w hj => ?_⟩
  rw [List.getElem?_set] at hj
  by_cases h1 : i + 1 = j
  · rw [if_pos h1] at hj
    split at hj <;> cases hj
  · rw [if_neg h1, List.getElem?_set] at hj
    by_cases hij : i = j
    · rw [if_pos hij] at hj
      by_cases hl : j < lv.length
      · rw [if_pos (by omega)] at hj
        cases hj
        have := h.2.2 (i, v) List.mem_cons_self
        rw [← hij]
        exact this
      · rw [if_neg (by omega)] at hj
        cases hj
    · rw [if_neg hij] at hj
      refine h.2.2 (j, w) (List.mem_cons_of_mem _ (List.mem_filter.mpr ⟨kr_mem_assoc.mpr hj, ?_⟩))
      have e1 : (j == i) = false := by simp; omega
      have e4 : (j == i + 1) = false := by simp; omega
      by_cases e2 : j + 1 = i
      · have hw : w.category = 1 := hlow w (by rw [← e2, Nat.add_sub_cancel]; exact hj) (by omega)
        simp [e1, e4, hw]
      · have e3 : (j + 1 == i) = false := by simp; omega
        simp [e1, e3, e4]
section
variable {G : kr_G} {x : kr_X} {y : MethodName} {cc : ByteArray} {nL : Nat} {ret : Option FieldType} {rm : Room} {hh : List (Nat × Nat × Nat × Nat)} {Q : State → Prop} {P : Heap → Prop} {cs ss pc : Nat} {lv lv' : List (Option Value)} {st : List Value}
/-- other pictures of the same heap -/
theorem kj_P {P' : Heap → Prop} (h : ∀ H, P H → P' H) (k : kr_J G x nL Q P' cs ss pc lv st) : kr_J G x nL Q P cs ss pc lv st := fun H locs ls hP hS hl => k H locs ls (h H hP) hS hl
theorem kj_ex {α : Sort _} {P' : α → Heap → Prop} (h : ∀ H, P H → ∃ a, P' a H) (k : ∀ a, kr_J G x nL Q (P' a) cs ss pc lv st) : kr_J G x nL Q P cs ss pc lv st := fun H locs ls hP hS hl => by
  obtain ⟨a, ha⟩ := h H hP
  exact k a H locs ls ha hS hl
theorem kj_pure {φ : Prop} (h : ∀ H, P H → φ) (k : φ → kr_J G x nL Q P cs ss pc lv st) : kr_J G x nL Q P cs ss pc lv st := fun H locs ls hP hS hl => k (h H hP) H locs ls hP hS hl
theorem kj_lv (h : ∀ (i : Nat) (v : Value), lv'[i]? = some (some v) → lv[i]? = some (some v)) (k : kr_J G x nL Q P cs ss pc lv' st) : kr_J G x nL Q P cs ss pc lv st := fun H locs ls hP hS hl => k H locs ls hP hS ⟨hl.1, hl.2.1, fun i v e => hl.2.2 i v (h i v e)⟩
theorem kj_wide {cs' ss' : Nat} (h1 : cs ≤ cs') (h2 : ss ≤ ss') (k : kr_J G x nL Q P cs' ss' pc lv st) : kr_J G x nL Q P cs ss pc lv st := fun H locs ls hP hS hl => W.widen h1 h2 (k H locs ls hP hS hl)
theorem kj_Q {Q' : State → Prop} (h : ∀ t, Q' t → Q t) (k : kr_J G x nL Q' P cs ss pc lv st) : kr_J G x nL Q P cs ss pc lv st := fun H locs ls hP hS hl T hT X => by
  obtain ⟨t, a, b⟩ := k H locs ls hP hS hl T hT X
  exact ⟨t, a, h t b⟩
theorem kj_iconst (X : kr_C G x y cc nL ret rm hh) {n : Int} {v : Int32} (hdg : decode cc pc = .ok (.iconst n, 1)) (hv : Int32.ofInt n = v) (k : kr_J G x nL Q P cs ss (pc + 1) lv (.int v :: st)) : kr_J G x nL Q P cs ss pc lv (st) := fun H locs ls hP hS hl => lv_iconst X.1 X.2.1 hdg hv (k H locs ls hP hS hl)
theorem kj_bipush (X : kr_C G x y cc nL ret rm hh) {n : Int} {v : Int32} (hdg : decode cc pc = .ok (.bipush n, 2)) (hv : (Int8.ofInt n).toInt32 = v) (k : kr_J G x nL Q P cs ss (pc + 2) lv (.int v :: st)) : kr_J G x nL Q P cs ss pc lv (st) := fun H locs ls hP hS hl => lv_bipush X.1 X.2.1 hdg hv (k H locs ls hP hS hl)
theorem kj_sipush (X : kr_C G x y cc nL ret rm hh) {n : Int} {v : Int32} (hdg : decode cc pc = .ok (.sipush n, 3)) (hv : (Int16.ofInt n).toInt32 = v) (k : kr_J G x nL Q P cs ss (pc + 3) lv (.int v :: st)) : kr_J G x nL Q P cs ss pc lv (st) := fun H locs ls hP hS hl => lv_sipush X.1 X.2.1 hdg hv (k H locs ls hP hS hl)
theorem kj_lconst (X : kr_C G x y cc nL ret rm hh) {n : Fin 2} {v : Int64} (hdg : decode cc pc = .ok (.lconst n, 1)) (hv : Int64.ofNat (n : Nat) = v) (k : kr_J G x nL Q P cs ss (pc + 1) lv (.long v :: st)) : kr_J G x nL Q P cs ss pc lv (st) := fun H locs ls hP hS hl => lv_lconst X.1 X.2.1 hdg hv (k H locs ls hP hS hl)
theorem kj_null (X : kr_C G x y cc nL ret rm hh)  (hdg : decode cc pc = .ok (.aconst_null, 1))  (k : kr_J G x nL Q P cs ss (pc + 1) lv (.null :: st)) : kr_J G x nL Q P cs ss pc lv (st) := fun H locs ls hP hS hl => lv_null X.1 X.2.1 hdg  (k H locs ls hP hS hl)
theorem kj_dconst0 (X : kr_C G x y cc nL ret rm hh)  (hdg : decode cc pc = .ok (.dconst 0, 1))  (k : kr_J G x nL Q P cs ss (pc + 1) lv (.double FP.dconst0 :: st)) : kr_J G x nL Q P cs ss pc lv (st) := fun H locs ls hP hS hl => lv_dconst0 X.1 X.2.1 hdg  (k H locs ls hP hS hl)
theorem kj_iload_n (X : kr_C G x y cc nL ret rm hh) {k0 : Fin 4} {i : Nat} {v : Int32} (hdg : decode cc pc = .ok (.iload_n k0, 1)) (hi : (k0 : Nat) = i) (h : lv[i]? = some (some (.int v))) (k : kr_J G x nL Q P cs ss (pc + 1) lv (.int v :: st)) : kr_J G x nL Q P cs ss pc lv (st) := fun H locs ls hP hS hl => lv_iload_n X.1 X.2.1 hdg hi (hl.2.2 i _ h) (k H locs ls hP hS hl)
theorem kj_iload (X : kr_C G x y cc nL ret rm hh) {i : Nat} {v : Int32} (hdg : decode cc pc = .ok (.iload i, 2)) (h : lv[i]? = some (some (.int v))) (k : kr_J G x nL Q P cs ss (pc + 2) lv (.int v :: st)) : kr_J G x nL Q P cs ss pc lv (st) := fun H locs ls hP hS hl => lv_iload X.1 X.2.1 hdg (hl.2.2 i _ h) (k H locs ls hP hS hl)
theorem kj_lload_n (X : kr_C G x y cc nL ret rm hh) {k0 : Fin 4} {i : Nat} {v : Int64} (hdg : decode cc pc = .ok (.lload_n k0, 1)) (hi : (k0 : Nat) = i) (h : lv[i]? = some (some (.long v))) (k : kr_J G x nL Q P cs ss (pc + 1) lv (.long v :: st)) : kr_J G x nL Q P cs ss pc lv (st) := fun H locs ls hP hS hl => lv_lload_n X.1 X.2.1 hdg hi (hl.2.2 i _ h) (k H locs ls hP hS hl)
theorem kj_lload (X : kr_C G x y cc nL ret rm hh) {i : Nat} {v : Int64} (hdg : decode cc pc = .ok (.lload i, 2)) (h : lv[i]? = some (some (.long v))) (k : kr_J G x nL Q P cs ss (pc + 2) lv (.long v :: st)) : kr_J G x nL Q P cs ss pc lv (st) := fun H locs ls hP hS hl => lv_lload X.1 X.2.1 hdg (hl.2.2 i _ h) (k H locs ls hP hS hl)
theorem kj_dload_n (X : kr_C G x y cc nL ret rm hh) {k0 : Fin 4} {i : Nat} {v : UInt64} (hdg : decode cc pc = .ok (.dload_n k0, 1)) (hi : (k0 : Nat) = i) (h : lv[i]? = some (some (.double v))) (k : kr_J G x nL Q P cs ss (pc + 1) lv (.double v :: st)) : kr_J G x nL Q P cs ss pc lv (st) := fun H locs ls hP hS hl => lv_dload_n X.1 X.2.1 hdg hi (hl.2.2 i _ h) (k H locs ls hP hS hl)
theorem kj_dload (X : kr_C G x y cc nL ret rm hh) {i : Nat} {v : UInt64} (hdg : decode cc pc = .ok (.dload i, 2)) (h : lv[i]? = some (some (.double v))) (k : kr_J G x nL Q P cs ss (pc + 2) lv (.double v :: st)) : kr_J G x nL Q P cs ss pc lv (st) := fun H locs ls hP hS hl => lv_dload X.1 X.2.1 hdg (hl.2.2 i _ h) (k H locs ls hP hS hl)
theorem kj_fload_n (X : kr_C G x y cc nL ret rm hh) {k0 : Fin 4} {i : Nat} {v : UInt32} (hdg : decode cc pc = .ok (.fload_n k0, 1)) (hi : (k0 : Nat) = i) (h : lv[i]? = some (some (.float v))) (k : kr_J G x nL Q P cs ss (pc + 1) lv (.float v :: st)) : kr_J G x nL Q P cs ss pc lv (st) := fun H locs ls hP hS hl => lv_fload_n X.1 X.2.1 hdg hi (hl.2.2 i _ h) (k H locs ls hP hS hl)
theorem kj_aload_n (X : kr_C G x y cc nL ret rm hh) {k0 : Fin 4} {i : Nat} {v : Value} (hdg : decode cc pc = .ok (.aload_n k0, 1)) (hi : (k0 : Nat) = i) (h : lv[i]? = some (some v)) (hv : ∃ r, v = va_rf r) (k : kr_J G x nL Q P cs ss (pc + 1) lv (v :: st)) : kr_J G x nL Q P cs ss pc lv st := fun H locs ls hP hS hl => by
  obtain ⟨r, rfl⟩ := hv
  cases r with
  | none => exact lv_aload_nN X.1 X.2.1 hdg hi (hl.2.2 i _ h) (k H locs ls hP hS hl)
  | some a => exact lv_aload_n X.1 X.2.1 hdg hi (hl.2.2 i _ h) (k H locs ls hP hS hl)
theorem kj_aload (X : kr_C G x y cc nL ret rm hh) {i : Nat} {v : Value} (hdg : decode cc pc = .ok (.aload i, 2)) (h : lv[i]? = some (some v)) (hv : ∃ r, v = va_rf r) (k : kr_J G x nL Q P cs ss (pc + 2) lv (v :: st)) : kr_J G x nL Q P cs ss pc lv st := fun H locs ls hP hS hl => by
  obtain ⟨r, rfl⟩ := hv
  cases r with
  | none => exact lv_aloadN X.1 X.2.1 hdg (hl.2.2 i _ h) (k H locs ls hP hS hl)
  | some a => exact lv_aload X.1 X.2.1 hdg (hl.2.2 i _ h) (k H locs ls hP hS hl)
theorem kj_istore_n (X : kr_C G x y cc nL ret rm hh) {k0 : Fin 4} {i : Nat} {v : Int32} (hdg : decode cc pc = .ok (.istore_n k0, 1)) (hi : (k0 : Nat) = i) (hn : i < nL) (hlow : ∀ w : Value, lv[i - 1]? = some (some w) → 0 < i → w.category = 1) (hs : lv.set i (some (.int v)) = lv') (k : kr_J G x nL Q P cs ss (pc + 1) lv' st) : kr_J G x nL Q P cs ss pc lv (.int v :: st) := fun H locs ls hP hS hl => lv_istore_n X.1 X.2.1 hdg hi hl.has hn rfl (fun ls' h' => k H locs ls' hP hS (hs ▸ kr_L.one h' hlow))
theorem kj_istore (X : kr_C G x y cc nL ret rm hh) {i : Nat} {v : Int32} (hdg : decode cc pc = .ok (.istore i, 2)) (hn : i < nL) (hlow : ∀ w : Value, lv[i - 1]? = some (some w) → 0 < i → w.category = 1) (hs : lv.set i (some (.int v)) = lv') (k : kr_J G x nL Q P cs ss (pc + 2) lv' st) : kr_J G x nL Q P cs ss pc lv (.int v :: st) := fun H locs ls hP hS hl => lv_istore X.1 X.2.1 hdg hl.has hn rfl (fun ls' h' => k H locs ls' hP hS (hs ▸ kr_L.one h' hlow))
theorem kj_lstore_n (X : kr_C G x y cc nL ret rm hh) {k0 : Fin 4} {i : Nat} {v : Int64} (hdg : decode cc pc = .ok (.lstore_n k0, 1)) (hi : (k0 : Nat) = i) (hn : i + 1 < nL) (hlow : ∀ w : Value, lv[i - 1]? = some (some w) → 0 < i → w.category = 1) (hs : (lv.set i (some (.long v))).set (i + 1) none = lv') (k : kr_J G x nL Q P cs ss (pc + 1) lv' st) : kr_J G x nL Q P cs ss pc lv (.long v :: st) := fun H locs ls hP hS hl => lv_lstore_n X.1 X.2.1 hdg hi hl.has hn rfl (fun ls' h' => k H locs ls' hP hS (hs ▸ kr_L.two h' hlow))
theorem kj_lstore (X : kr_C G x y cc nL ret rm hh) {i : Nat} {v : Int64} (hdg : decode cc pc = .ok (.lstore i, 2)) (hn : i + 1 < nL) (hlow : ∀ w : Value, lv[i - 1]? = some (some w) → 0 < i → w.category = 1) (hs : (lv.set i (some (.long v))).set (i + 1) none = lv') (k : kr_J G x nL Q P cs ss (pc + 2) lv' st) : kr_J G x nL Q P cs ss pc lv (.long v :: st) := fun H locs ls hP hS hl => lv_lstore X.1 X.2.1 hdg hl.has hn rfl (fun ls' h' => k H locs ls' hP hS (hs ▸ kr_L.two h' hlow))
theorem kj_dstore_n (X : kr_C G x y cc nL ret rm hh) {k0 : Fin 4} {i : Nat} {v : UInt64} (hdg : decode cc pc = .ok (.dstore_n k0, 1)) (hi : (k0 : Nat) = i) (hn : i + 1 < nL) (hlow : ∀ w : Value, lv[i - 1]? = some (some w) → 0 < i → w.category = 1) (hs : (lv.set i (some (.double v))).set (i + 1) none = lv') (k : kr_J G x nL Q P cs ss (pc + 1) lv' st) : kr_J G x nL Q P cs ss pc lv (.double v :: st) := fun H locs ls hP hS hl => lv_dstore_n X.1 X.2.1 hdg hi hl.has hn rfl (fun ls' h' => k H locs ls' hP hS (hs ▸ kr_L.two h' hlow))
theorem kj_dstore (X : kr_C G x y cc nL ret rm hh) {i : Nat} {v : UInt64} (hdg : decode cc pc = .ok (.dstore i, 2)) (hn : i + 1 < nL) (hlow : ∀ w : Value, lv[i - 1]? = some (some w) → 0 < i → w.category = 1) (hs : (lv.set i (some (.double v))).set (i + 1) none = lv') (k : kr_J G x nL Q P cs ss (pc + 2) lv' st) : kr_J G x nL Q P cs ss pc lv (.double v :: st) := fun H locs ls hP hS hl => lv_dstore X.1 X.2.1 hdg hl.has hn rfl (fun ls' h' => k H locs ls' hP hS (hs ▸ kr_L.two h' hlow))
theorem kj_astore_n (X : kr_C G x y cc nL ret rm hh) {k0 : Fin 4} {i : Nat} {v : Value} (hdg : decode cc pc = .ok (.astore_n k0, 1)) (hi : (k0 : Nat) = i) (hn : i < nL) (hlow : ∀ w : Value, lv[i - 1]? = some (some w) → 0 < i → w.category = 1) (hv : ∃ r, v = va_rf r) (hs : lv.set i (some v) = lv') (k : kr_J G x nL Q P cs ss (pc + 1) lv' st) : kr_J G x nL Q P cs ss pc lv (v :: st) := fun H locs ls hP hS hl => by
  obtain ⟨r, rfl⟩ := hv
  cases r with
  | none => exact lv_astore_nN X.1 X.2.1 hdg hi hl.has hn rfl (fun ls' h' => k H locs ls' hP hS (hs ▸ kr_L.one h' hlow))
  | some a => exact lv_astore_n X.1 X.2.1 hdg hi hl.has hn rfl (fun ls' h' => k H locs ls' hP hS (hs ▸ kr_L.one h' hlow))
theorem kj_astore (X : kr_C G x y cc nL ret rm hh) {i : Nat} {v : Value} (hdg : decode cc pc = .ok (.astore i, 2)) (hn : i < nL) (hlow : ∀ w : Value, lv[i - 1]? = some (some w) → 0 < i → w.category = 1) (hv : ∃ r, v = va_rf r) (hs : lv.set i (some v) = lv') (k : kr_J G x nL Q P cs ss (pc + 2) lv' st) : kr_J G x nL Q P cs ss pc lv (v :: st) := fun H locs ls hP hS hl => by
  obtain ⟨r, rfl⟩ := hv
  cases r with
  | none => exact lv_astoreN X.1 X.2.1 hdg hl.has hn rfl (fun ls' h' => k H locs ls' hP hS (hs ▸ kr_L.one h' hlow))
  | some a => exact lv_astore X.1 X.2.1 hdg hl.has hn rfl (fun ls' h' => k H locs ls' hP hS (hs ▸ kr_L.one h' hlow))
theorem kj_iinc (X : kr_C G x y cc nL ret rm hh) {i : Nat} {n : Int} {v w : Int32} (hdg : decode cc pc = .ok (.iinc i n, 3)) (hn : i < nL) (h : lv[i]? = some (some (.int v))) (hlow : ∀ w : Value, lv[i - 1]? = some (some w) → 0 < i → w.category = 1) (hv : v + Int32.ofInt n = w) (hs : lv.set i (some (.int w)) = lv') (k : kr_J G x nL Q P cs ss (pc + 3) lv' st) : kr_J G x nL Q P cs ss pc lv st := fun H locs ls hP hS hl => by
  obtain ⟨j, hj⟩ := List.getElem?_of_mem (kr_mem_assoc.mpr h)
  exact lv_iinc X.1 X.2.1 hdg hl.has hj hv hn rfl (fun ls' h' => k H locs ls' hP hS (hs ▸ kr_L.one h' hlow))
theorem kj_iadd (X : kr_C G x y cc nL ret rm hh) {x0 y0 : Int32} (hdg : decode cc pc = .ok (.iadd, 1))  (k : kr_J G x nL Q P cs ss (pc + 1) lv (.int (x0 + y0) :: st)) : kr_J G x nL Q P cs ss pc lv (.int y0 :: .int x0 :: st) := fun H locs ls hP hS hl => lv_iadd X.1 X.2.1 hdg  (k H locs ls hP hS hl)
theorem kj_isub (X : kr_C G x y cc nL ret rm hh) {x0 y0 : Int32} (hdg : decode cc pc = .ok (.isub, 1))  (k : kr_J G x nL Q P cs ss (pc + 1) lv (.int (x0 - y0) :: st)) : kr_J G x nL Q P cs ss pc lv (.int y0 :: .int x0 :: st) := fun H locs ls hP hS hl => lv_isub X.1 X.2.1 hdg  (k H locs ls hP hS hl)
theorem kj_imul (X : kr_C G x y cc nL ret rm hh) {x0 y0 : Int32} (hdg : decode cc pc = .ok (.imul, 1))  (k : kr_J G x nL Q P cs ss (pc + 1) lv (.int (x0 * y0) :: st)) : kr_J G x nL Q P cs ss pc lv (.int y0 :: .int x0 :: st) := fun H locs ls hP hS hl => lv_imul X.1 X.2.1 hdg  (k H locs ls hP hS hl)
theorem kj_iand (X : kr_C G x y cc nL ret rm hh) {x0 y0 : Int32} (hdg : decode cc pc = .ok (.iand, 1))  (k : kr_J G x nL Q P cs ss (pc + 1) lv (.int (x0 &&& y0) :: st)) : kr_J G x nL Q P cs ss pc lv (.int y0 :: .int x0 :: st) := fun H locs ls hP hS hl => lv_iand X.1 X.2.1 hdg  (k H locs ls hP hS hl)
theorem kj_ior (X : kr_C G x y cc nL ret rm hh) {x0 y0 : Int32} (hdg : decode cc pc = .ok (.ior, 1))  (k : kr_J G x nL Q P cs ss (pc + 1) lv (.int (x0 ||| y0) :: st)) : kr_J G x nL Q P cs ss pc lv (.int y0 :: .int x0 :: st) := fun H locs ls hP hS hl => lv_ior X.1 X.2.1 hdg  (k H locs ls hP hS hl)
theorem kj_ishl (X : kr_C G x y cc nL ret rm hh) {x0 y0 : Int32} (hdg : decode cc pc = .ok (.ishl, 1))  (k : kr_J G x nL Q P cs ss (pc + 1) lv (.int (x0 <<< (y0 &&& 31)) :: st)) : kr_J G x nL Q P cs ss pc lv (.int y0 :: .int x0 :: st) := fun H locs ls hP hS hl => lv_ishl X.1 X.2.1 hdg  (k H locs ls hP hS hl)
theorem kj_ishr (X : kr_C G x y cc nL ret rm hh) {x0 y0 : Int32} (hdg : decode cc pc = .ok (.ishr, 1))  (k : kr_J G x nL Q P cs ss (pc + 1) lv (.int (x0 >>> (y0 &&& 31)) :: st)) : kr_J G x nL Q P cs ss pc lv (.int y0 :: .int x0 :: st) := fun H locs ls hP hS hl => lv_ishr X.1 X.2.1 hdg  (k H locs ls hP hS hl)
theorem kj_ladd (X : kr_C G x y cc nL ret rm hh) {x0 y0 : Int64} (hdg : decode cc pc = .ok (.ladd, 1))  (k : kr_J G x nL Q P cs ss (pc + 1) lv (.long (x0 + y0) :: st)) : kr_J G x nL Q P cs ss pc lv (.long y0 :: .long x0 :: st) := fun H locs ls hP hS hl => lv_ladd X.1 X.2.1 hdg  (k H locs ls hP hS hl)
theorem kj_lcmp (X : kr_C G x y cc nL ret rm hh) {x0 y0 : Int64} (hdg : decode cc pc = .ok (.lcmp, 1))  (k : kr_J G x nL Q P cs ss (pc + 1) lv (.int (lg_cmp x0 y0) :: st)) : kr_J G x nL Q P cs ss pc lv (.long y0 :: .long x0 :: st) := fun H locs ls hP hS hl => W.lcmp X.1 X.2.1 hdg  (k H locs ls hP hS hl)
theorem kj_i2l (X : kr_C G x y cc nL ret rm hh) {x0 : Int32} {v : Int64} (hdg : decode cc pc = .ok (.i2l, 1)) (hv : x0.toInt64 = v) (k : kr_J G x nL Q P cs ss (pc + 1) lv (.long v :: st)) : kr_J G x nL Q P cs ss pc lv (.int x0 :: st) := fun H locs ls hP hS hl => lv_i2l X.1 X.2.1 hdg hv (k H locs ls hP hS hl)
theorem kj_i2c (X : kr_C G x y cc nL ret rm hh) {x0 : Int32} {v : Int32} (hdg : decode cc pc = .ok (.i2c, 1)) (hv : (x0.toUInt32 % 65536).toInt32 = v) (k : kr_J G x nL Q P cs ss (pc + 1) lv (.int v :: st)) : kr_J G x nL Q P cs ss pc lv (.int x0 :: st) := fun H locs ls hP hS hl => lv_i2c X.1 X.2.1 hdg hv (k H locs ls hP hS hl)
theorem kj_i2f (X : kr_C G x y cc nL ret rm hh) {x0 : Int32} (hdg : decode cc pc = .ok (.i2f, 1))  (k : kr_J G x nL Q P cs ss (pc + 1) lv (.float (FP.i2f x0) :: st)) : kr_J G x nL Q P cs ss pc lv (.int x0 :: st) := fun H locs ls hP hS hl => lv_i2f X.1 X.2.1 hdg  (k H locs ls hP hS hl)
theorem kj_i2d (X : kr_C G x y cc nL ret rm hh) {x0 : Int32} (hdg : decode cc pc = .ok (.i2d, 1))  (k : kr_J G x nL Q P cs ss (pc + 1) lv (.double (FP.i2d x0) :: st)) : kr_J G x nL Q P cs ss pc lv (.int x0 :: st) := fun H locs ls hP hS hl => lv_i2d X.1 X.2.1 hdg  (k H locs ls hP hS hl)
theorem kj_l2d (X : kr_C G x y cc nL ret rm hh) {x0 : Int64} (hdg : decode cc pc = .ok (.l2d, 1))  (k : kr_J G x nL Q P cs ss (pc + 1) lv (.double (FP.l2d x0) :: st)) : kr_J G x nL Q P cs ss pc lv (.long x0 :: st) := fun H locs ls hP hS hl => lv_l2d X.1 X.2.1 hdg  (k H locs ls hP hS hl)
theorem kj_fdiv (X : kr_C G x y cc nL ret rm hh) {x0 y0 : UInt32} (hdg : decode cc pc = .ok (.fdiv, 1)) (hne : vf_n32 (FP.fdiv x0 y0)) (k : kr_J G x nL Q P cs ss (pc + 1) lv (.float (FP.fdiv x0 y0) :: st)) : kr_J G x nL Q P cs ss pc lv (.float y0 :: .float x0 :: st) := fun H locs ls hP hS hl => lv_fdiv X.1 X.2.1 hdg hne (k H locs ls hP hS hl)
theorem kj_ddiv (X : kr_C G x y cc nL ret rm hh) {x0 y0 : UInt64} (hdg : decode cc pc = .ok (.ddiv, 1)) (hne : vf_n64 (FP.ddiv x0 y0)) (k : kr_J G x nL Q P cs ss (pc + 1) lv (.double (FP.ddiv x0 y0) :: st)) : kr_J G x nL Q P cs ss pc lv (.double y0 :: .double x0 :: st) := fun H locs ls hP hS hl => lv_ddiv X.1 X.2.1 hdg hne (k H locs ls hP hS hl)
theorem kj_f2d (X : kr_C G x y cc nL ret rm hh) {x0 : UInt32} (hdg : decode cc pc = .ok (.f2d, 1)) (hne : vf_n64 (FP.f2d x0)) (k : kr_J G x nL Q P cs ss (pc + 1) lv (.double (FP.f2d x0) :: st)) : kr_J G x nL Q P cs ss pc lv (.float x0 :: st) := fun H locs ls hP hS hl => lv_f2d X.1 X.2.1 hdg hne (k H locs ls hP hS hl)
theorem kj_dcmp (X : kr_C G x y cc nL ret rm hh) {x0 y0 : UInt64} {op : CmpOp} (hdg : decode cc pc = .ok (.dcmp op, 1))  (k : kr_J G x nL Q P cs ss (pc + 1) lv (.int (Op.cmpValue (FP.dcmp x0 y0) op) :: st)) : kr_J G x nL Q P cs ss pc lv (.double y0 :: .double x0 :: st) := fun H locs ls hP hS hl => lv_dcmp X.1 X.2.1 hdg  (k H locs ls hP hS hl)
theorem kj_fcmp (X : kr_C G x y cc nL ret rm hh) {x0 y0 : UInt32} {op : CmpOp} (hdg : decode cc pc = .ok (.fcmp op, 1))  (k : kr_J G x nL Q P cs ss (pc + 1) lv (.int (Op.cmpValue (FP.fcmp x0 y0) op) :: st)) : kr_J G x nL Q P cs ss pc lv (.float y0 :: .float x0 :: st) := fun H locs ls hP hS hl => lv_fcmp X.1 X.2.1 hdg  (k H locs ls hP hS hl)
theorem kj_dup (X : kr_C G x y cc nL ret rm hh) {va : Value} (hdg : decode cc pc = .ok (.dup, 1)) (hva : va.category = 1) (k : kr_J G x nL Q P cs ss (pc + 1) lv (va :: va :: st)) : kr_J G x nL Q P cs ss pc lv (va :: st) := fun H locs ls hP hS hl => lv_dup X.1 X.2.1 hdg hva (k H locs ls hP hS hl)
theorem kj_pop (X : kr_C G x y cc nL ret rm hh) {va : Value} (hdg : decode cc pc = .ok (.pop, 1)) (hva : va.category = 1) (k : kr_J G x nL Q P cs ss (pc + 1) lv (st)) : kr_J G x nL Q P cs ss pc lv (va :: st) := fun H locs ls hP hS hl => lv_pop X.1 X.2.1 hdg hva (k H locs ls hP hS hl)
theorem kj_dup_x1 (X : kr_C G x y cc nL ret rm hh) {va vb : Value} (hdg : decode cc pc = .ok (.dup_x1, 1)) (hva : va.category = 1) (hvb : vb.category = 1) (k : kr_J G x nL Q P cs ss (pc + 1) lv (va :: vb :: va :: st)) : kr_J G x nL Q P cs ss pc lv (va :: vb :: st) := fun H locs ls hP hS hl => lv_dup_x1 X.1 X.2.1 hdg hva hvb (k H locs ls hP hS hl)
theorem kj_dup2 (X : kr_C G x y cc nL ret rm hh) {va vb : Value} (hdg : decode cc pc = .ok (.dup2, 1)) (hva : va.category = 1) (hvb : vb.category = 1) (k : kr_J G x nL Q P cs ss (pc + 1) lv (va :: vb :: va :: vb :: st)) : kr_J G x nL Q P cs ss pc lv (va :: vb :: st) := fun H locs ls hP hS hl => lv_dup2_11 X.1 X.2.1 hdg hva hvb (k H locs ls hP hS hl)
theorem kj_ldc (X : kr_C G x y cc nL ret rm hh) {index : Nat} {v : Int32} (hw : Jvm.Cond.constant y.cls index v ∈ lw_all) (hdg : decode cc pc = .ok (.ldc index, 2)) (k : kr_J G x nL Q P cs ss (pc + 2) lv (.int v :: st)) : kr_J G x nL Q P cs ss pc lv st := fun H locs ls hP hS hl => lv_ldc X.1 X.2.1 X.2.2.2.1 (X.2.2.2.2.1 _ hw) hdg (k H locs ls hP hS hl)
theorem kj_ldcf (X : kr_C G x y cc nL ret rm hh) {index : Nat} {v : UInt32} (hw : Jvm.Cond.constantFloat y.cls index v ∈ lw_all) (hdg : decode cc pc = .ok (.ldc index, 2)) (k : kr_J G x nL Q P cs ss (pc + 2) lv (.float v :: st)) : kr_J G x nL Q P cs ss pc lv st := fun H locs ls hP hS hl => lv_ldcf X.1 X.2.1 X.2.2.2.1 (X.2.2.2.2.1 _ hw) hdg (k H locs ls hP hS hl)
theorem kj_ldcw (X : kr_C G x y cc nL ret rm hh) {index : Nat} {v : Int32} (hw : Jvm.Cond.constant y.cls index v ∈ lw_all) (hdg : decode cc pc = .ok (.ldc_w index, 3)) (k : kr_J G x nL Q P cs ss (pc + 3) lv (.int v :: st)) : kr_J G x nL Q P cs ss pc lv st := fun H locs ls hP hS hl => lv_ldcw X.1 X.2.1 X.2.2.2.1 (X.2.2.2.2.1 _ hw) hdg (k H locs ls hP hS hl)
theorem kj_if_eq (X : kr_C G x y cc nL ret rm hh) {x0 : Int32} {off : Int} (tgt : Nat) (hdg : decode cc pc = .ok (.ifCond .eq off, 3)) (ht : (pc : Int) + off = (tgt : Int)) (kt : x0 = 0 → kr_J G x nL Q P cs ss tgt lv st) (kf : ¬ x0 = 0 → kr_J G x nL Q P cs ss (pc + 3) lv st) : kr_J G x nL Q P cs ss pc lv (.int x0 :: st) := fun H locs ls hP hS hl => lv_if_eq X.1 X.2.1 hdg ht (fun h => kt h H locs ls hP hS hl) (fun h => kf h H locs ls hP hS hl)
theorem kj_icmp_eq (X : kr_C G x y cc nL ret rm hh) {x0 y0 : Int32} {off : Int} (tgt : Nat) (hdg : decode cc pc = .ok (.if_icmp .eq off, 3)) (ht : (pc : Int) + off = (tgt : Int)) (kt : x0 = y0 → kr_J G x nL Q P cs ss tgt lv st) (kf : ¬ x0 = y0 → kr_J G x nL Q P cs ss (pc + 3) lv st) : kr_J G x nL Q P cs ss pc lv (.int y0 :: .int x0 :: st) := fun H locs ls hP hS hl => lv_icmp_eq X.1 X.2.1 hdg ht (fun h => kt h H locs ls hP hS hl) (fun h => kf h H locs ls hP hS hl)
theorem kj_if_ne (X : kr_C G x y cc nL ret rm hh) {x0 : Int32} {off : Int} (tgt : Nat) (hdg : decode cc pc = .ok (.ifCond .ne off, 3)) (ht : (pc : Int) + off = (tgt : Int)) (kt : ¬ x0 = 0 → kr_J G x nL Q P cs ss tgt lv st) (kf : x0 = 0 → kr_J G x nL Q P cs ss (pc + 3) lv st) : kr_J G x nL Q P cs ss pc lv (.int x0 :: st) := fun H locs ls hP hS hl => lv_if_ne X.1 X.2.1 hdg ht (fun h => kt h H locs ls hP hS hl) (fun h => kf h H locs ls hP hS hl)
theorem kj_icmp_ne (X : kr_C G x y cc nL ret rm hh) {x0 y0 : Int32} {off : Int} (tgt : Nat) (hdg : decode cc pc = .ok (.if_icmp .ne off, 3)) (ht : (pc : Int) + off = (tgt : Int)) (kt : ¬ x0 = y0 → kr_J G x nL Q P cs ss tgt lv st) (kf : x0 = y0 → kr_J G x nL Q P cs ss (pc + 3) lv st) : kr_J G x nL Q P cs ss pc lv (.int y0 :: .int x0 :: st) := fun H locs ls hP hS hl => lv_icmp_ne X.1 X.2.1 hdg ht (fun h => kt h H locs ls hP hS hl) (fun h => kf h H locs ls hP hS hl)
theorem kj_if_lt (X : kr_C G x y cc nL ret rm hh) {x0 : Int32} {off : Int} (tgt : Nat) (hdg : decode cc pc = .ok (.ifCond .lt off, 3)) (ht : (pc : Int) + off = (tgt : Int)) (kt : x0 < 0 → kr_J G x nL Q P cs ss tgt lv st) (kf : ¬ x0 < 0 → kr_J G x nL Q P cs ss (pc + 3) lv st) : kr_J G x nL Q P cs ss pc lv (.int x0 :: st) := fun H locs ls hP hS hl => lv_if_lt X.1 X.2.1 hdg ht (fun h => kt h H locs ls hP hS hl) (fun h => kf h H locs ls hP hS hl)
theorem kj_icmp_lt (X : kr_C G x y cc nL ret rm hh) {x0 y0 : Int32} {off : Int} (tgt : Nat) (hdg : decode cc pc = .ok (.if_icmp .lt off, 3)) (ht : (pc : Int) + off = (tgt : Int)) (kt : x0 < y0 → kr_J G x nL Q P cs ss tgt lv st) (kf : ¬ x0 < y0 → kr_J G x nL Q P cs ss (pc + 3) lv st) : kr_J G x nL Q P cs ss pc lv (.int y0 :: .int x0 :: st) := fun H locs ls hP hS hl => lv_icmp_lt X.1 X.2.1 hdg ht (fun h => kt h H locs ls hP hS hl) (fun h => kf h H locs ls hP hS hl)
theorem kj_if_ge (X : kr_C G x y cc nL ret rm hh) {x0 : Int32} {off : Int} (tgt : Nat) (hdg : decode cc pc = .ok (.ifCond .ge off, 3)) (ht : (pc : Int) + off = (tgt : Int)) (kt : 0 ≤ x0 → kr_J G x nL Q P cs ss tgt lv st) (kf : ¬ 0 ≤ x0 → kr_J G x nL Q P cs ss (pc + 3) lv st) : kr_J G x nL Q P cs ss pc lv (.int x0 :: st) := fun H locs ls hP hS hl => lv_if_ge X.1 X.2.1 hdg ht (fun h => kt h H locs ls hP hS hl) (fun h => kf h H locs ls hP hS hl)
theorem kj_icmp_ge (X : kr_C G x y cc nL ret rm hh) {x0 y0 : Int32} {off : Int} (tgt : Nat) (hdg : decode cc pc = .ok (.if_icmp .ge off, 3)) (ht : (pc : Int) + off = (tgt : Int)) (kt : y0 ≤ x0 → kr_J G x nL Q P cs ss tgt lv st) (kf : ¬ y0 ≤ x0 → kr_J G x nL Q P cs ss (pc + 3) lv st) : kr_J G x nL Q P cs ss pc lv (.int y0 :: .int x0 :: st) := fun H locs ls hP hS hl => lv_icmp_ge X.1 X.2.1 hdg ht (fun h => kt h H locs ls hP hS hl) (fun h => kf h H locs ls hP hS hl)
theorem kj_if_gt (X : kr_C G x y cc nL ret rm hh) {x0 : Int32} {off : Int} (tgt : Nat) (hdg : decode cc pc = .ok (.ifCond .gt off, 3)) (ht : (pc : Int) + off = (tgt : Int)) (kt : 0 < x0 → kr_J G x nL Q P cs ss tgt lv st) (kf : ¬ 0 < x0 → kr_J G x nL Q P cs ss (pc + 3) lv st) : kr_J G x nL Q P cs ss pc lv (.int x0 :: st) := fun H locs ls hP hS hl => lv_if_gt X.1 X.2.1 hdg ht (fun h => kt h H locs ls hP hS hl) (fun h => kf h H locs ls hP hS hl)
theorem kj_icmp_gt (X : kr_C G x y cc nL ret rm hh) {x0 y0 : Int32} {off : Int} (tgt : Nat) (hdg : decode cc pc = .ok (.if_icmp .gt off, 3)) (ht : (pc : Int) + off = (tgt : Int)) (kt : y0 < x0 → kr_J G x nL Q P cs ss tgt lv st) (kf : ¬ y0 < x0 → kr_J G x nL Q P cs ss (pc + 3) lv st) : kr_J G x nL Q P cs ss pc lv (.int y0 :: .int x0 :: st) := fun H locs ls hP hS hl => lv_icmp_gt X.1 X.2.1 hdg ht (fun h => kt h H locs ls hP hS hl) (fun h => kf h H locs ls hP hS hl)
theorem kj_if_le (X : kr_C G x y cc nL ret rm hh) {x0 : Int32} {off : Int} (tgt : Nat) (hdg : decode cc pc = .ok (.ifCond .le off, 3)) (ht : (pc : Int) + off = (tgt : Int)) (kt : x0 ≤ 0 → kr_J G x nL Q P cs ss tgt lv st) (kf : ¬ x0 ≤ 0 → kr_J G x nL Q P cs ss (pc + 3) lv st) : kr_J G x nL Q P cs ss pc lv (.int x0 :: st) := fun H locs ls hP hS hl => lv_if_le X.1 X.2.1 hdg ht (fun h => kt h H locs ls hP hS hl) (fun h => kf h H locs ls hP hS hl)
theorem kj_icmp_le (X : kr_C G x y cc nL ret rm hh) {x0 y0 : Int32} {off : Int} (tgt : Nat) (hdg : decode cc pc = .ok (.if_icmp .le off, 3)) (ht : (pc : Int) + off = (tgt : Int)) (kt : x0 ≤ y0 → kr_J G x nL Q P cs ss tgt lv st) (kf : ¬ x0 ≤ y0 → kr_J G x nL Q P cs ss (pc + 3) lv st) : kr_J G x nL Q P cs ss pc lv (.int y0 :: .int x0 :: st) := fun H locs ls hP hS hl => lv_icmp_le X.1 X.2.1 hdg ht (fun h => kt h H locs ls hP hS hl) (fun h => kf h H locs ls hP hS hl)
theorem kj_acmp_eq (X : kr_C G x y cc nL ret rm hh) {vx vy : Value} {rx ry : Option Nat} (hx : vx = va_rf rx) (hy : vy = va_rf ry) {off : Int} (tgt : Nat) (hdg : decode cc pc = .ok (.if_acmp .eq off, 3)) (ht : (pc : Int) + off = (tgt : Int)) (kt : rx = ry → kr_J G x nL Q P cs ss tgt lv st) (kf : ¬ rx = ry → kr_J G x nL Q P cs ss (pc + 3) lv st) : kr_J G x nL Q P cs ss pc lv (vy :: vx :: st) := fun H locs ls hP hS hl => by
  subst hx; subst hy
  exact lv_acmp_eq X.1 X.2.1 hdg ht (fun h => kt h H locs ls hP hS hl) (fun h => kf h H locs ls hP hS hl)
theorem kj_acmp_ne (X : kr_C G x y cc nL ret rm hh) {vx vy : Value} {rx ry : Option Nat} (hx : vx = va_rf rx) (hy : vy = va_rf ry) {off : Int} (tgt : Nat) (hdg : decode cc pc = .ok (.if_acmp .ne off, 3)) (ht : (pc : Int) + off = (tgt : Int)) (kt : ¬ rx = ry → kr_J G x nL Q P cs ss tgt lv st) (kf : rx = ry → kr_J G x nL Q P cs ss (pc + 3) lv st) : kr_J G x nL Q P cs ss pc lv (vy :: vx :: st) := fun H locs ls hP hS hl => by
  subst hx; subst hy
  exact lv_acmp_ne X.1 X.2.1 hdg ht (fun h => kt h H locs ls hP hS hl) (fun h => kf h H locs ls hP hS hl)
theorem kj_ifnull (X : kr_C G x y cc nL ret rm hh) {v : Value} {r : Option Nat} (hv : v = va_rf r) {off : Int} (tgt : Nat) (hdg : decode cc pc = .ok (.ifnull off, 3)) (ht : (pc : Int) + off = (tgt : Int)) (kt : r = none → kr_J G x nL Q P cs ss tgt lv st) (kf : ∀ a, r = some a → kr_J G x nL Q P cs ss (pc + 3) lv st) : kr_J G x nL Q P cs ss pc lv (v :: st) := fun H locs ls hP hS hl => by
  subst hv
  cases r with
  | none => exact lv_ifnullN X.1 X.2.1 hdg ht (kt rfl H locs ls hP hS hl)
  | some a => exact lv_ifnull X.1 X.2.1 hdg (kf a rfl H locs ls hP hS hl)
theorem kj_ifnonnull (X : kr_C G x y cc nL ret rm hh) {v : Value} {r : Option Nat} (hv : v = va_rf r) {off : Int} (tgt : Nat) (hdg : decode cc pc = .ok (.ifnonnull off, 3)) (ht : (pc : Int) + off = (tgt : Int)) (kt : ∀ a, r = some a → kr_J G x nL Q P cs ss tgt lv st) (kf : r = none → kr_J G x nL Q P cs ss (pc + 3) lv st) : kr_J G x nL Q P cs ss pc lv (v :: st) := fun H locs ls hP hS hl => by
  subst hv
  cases r with
  | none => exact lv_ifnonnullN X.1 X.2.1 hdg (kf rfl H locs ls hP hS hl)
  | some a => exact lv_ifnonnull X.1 X.2.1 hdg ht (kt a rfl H locs ls hP hS hl)
theorem kj_goto (X : kr_C G x y cc nL ret rm hh) {off : Int} (tgt : Nat) (hdg : decode cc pc = .ok (.goto off, 3)) (ht : (pc : Int) + off = (tgt : Int)) (k : kr_J G x nL Q P cs ss tgt lv st) : kr_J G x nL Q P cs ss pc lv st := fun H locs ls hP hS hl => lv_goto X.1 X.2.1 hdg ht (k H locs ls hP hS hl)
theorem kj_tableIn (X : kr_C G x y cc nL ret rm hh) {dflt lo hi : Int} {offs : Array Int} {len : Nat} {v : Int32} {off : Int} (tgt : Nat) (hdg : decode cc pc = .ok (.tableswitch dflt lo hi offs, len)) (h1 : ¬ v.toInt < lo) (h2 : ¬ hi < v.toInt) (ho : offs[(v.toInt - lo).toNat]? = some off) (ht : (pc : Int) + off = (tgt : Int)) (k : kr_J G x nL Q P cs ss tgt lv st) : kr_J G x nL Q P cs ss pc lv (.int v :: st) := fun H locs ls hP hS hl => lv_tableIn X.1 X.2.1 hdg h1 h2 ho ht (k H locs ls hP hS hl)
theorem kj_tableOut (X : kr_C G x y cc nL ret rm hh) {dflt lo hi : Int} {offs : Array Int} {len : Nat} {v : Int32} (tgt : Nat) (hdg : decode cc pc = .ok (.tableswitch dflt lo hi offs, len)) (h : v.toInt < lo ∨ hi < v.toInt) (ht : (pc : Int) + dflt = (tgt : Int)) (k : kr_J G x nL Q P cs ss tgt lv st) : kr_J G x nL Q P cs ss pc lv (.int v :: st) := fun H locs ls hP hS hl => lv_tableOut X.1 X.2.1 hdg h ht (k H locs ls hP hS hl)
end
