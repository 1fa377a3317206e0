/-! what the Statement gives of the start, as a method finds it; rows of statics, class objects, arraycopy, Math -/
set_option maxRecDepth 100000
theorem kf_given {G : kr_G} {l : Launch} (hF : kr_F G l) : ∃ b : Nat, (∀ w ∈ lw_tbl, w.before #[Value.ref b] (kg_s G) = true) ∧ ∀ w ∈ flatC (Jvm.Cond.and given_1 narrow_1), w.before #[Value.ref b] (kg_s G) = true := by
  obtain ⟨⟨b, h1, h2⟩, -⟩ := hF
  exact ⟨b, h1, flat_of_before _ h2⟩
theorem kf_old {G : kr_G} : ∀ a : Nat, a < (kg_s G).heap.size → ¬ kr_old G a := fun a h z => absurd z (Nat.not_le.mpr h)
theorem kf_static {G : kr_G} {C n d : String} {b a : Nat} (h : (Term.static C n d).eval #[Value.ref b] (kg_s G) none [] (kg_s G) = some (.ref a)) : kg_st G C n d = a := by
  have e : (Term.static C n d).eval #[] (kg_s G) none [] (kg_s G) = some (.ref a) := h
  unfold kg_st
  rw [e]
/-- an array of no places that lay there before -/
def kr_e (G : kr_G) (n : String) (a : Nat) (s : State) : Prop := va_Z "java/util/ArrayList" n "[Ljava/lang/Object;" (.ref a) (kr_old G) s s.heap ∧ va_T (.object "java/lang/Object") a 0 (fun _ => .null) (kr_old G) s s.heap
theorem kf_e0 {G : kr_G} {l : Launch} (hF : kr_F G l) : kr_e G "DEFAULTCAPACITY_EMPTY_ELEMENTDATA" (kg_e0 G) (kg_s G) := by
  obtain ⟨b, h1, h2⟩ := kf_given hF
  have hl : (Cond.laysStatic "java/util/ArrayList" "DEFAULTCAPACITY_EMPTY_ELEMENTDATA" "[Ljava/lang/Object;").before #[Value.ref b] (kg_s G) = true := h1 _ q110
  have hi : (Cond.initialized "java/util/ArrayList").before #[Value.ref b] (kg_s G) = true := h1 _ (lw_all_tbl q46)
  obtain ⟨t, e1, e2⟩ := va_Tof (tm := .static "java/util/ArrayList" "DEFAULTCAPACITY_EMPTY_ELEMENTDATA" "[Ljava/lang/Object;") (N := 0) (f := fun _ => .null) (by decide) (h2 (.arrayOf (.static "java/util/ArrayList" "DEFAULTCAPACITY_EMPTY_ELEMENTDATA" "[Ljava/lang/Object;") (.object "java/lang/Object")) (by decide +kernel)) (va_eqt (h2 (.eq (.length (.static "java/util/ArrayList" "DEFAULTCAPACITY_EMPTY_ELEMENTDATA" "[Ljava/lang/Object;")) (.int 0)) (by decide +kernel))) (fun j hj => absurd hj (Nat.not_lt_zero j)) (kf_old (G := G))
  rw [kg_e0, kf_static e1]
  exact ⟨va_Zref hl hi e1 kf_old, e2⟩
abbrev kg_e1 (G : kr_G) : Nat := kg_st G "java/util/ArrayList" "EMPTY_ELEMENTDATA" "[Ljava/lang/Object;"
theorem kf_e1 {G : kr_G} {l : Launch} (hF : kr_F G l) : kr_e G "EMPTY_ELEMENTDATA" (kg_e1 G) (kg_s G) := by
  obtain ⟨b, h1, h2⟩ := kf_given hF
  have hl : (Cond.laysStatic "java/util/ArrayList" "EMPTY_ELEMENTDATA" "[Ljava/lang/Object;").before #[Value.ref b] (kg_s G) = true := h1 _ q1428
  have hi : (Cond.initialized "java/util/ArrayList").before #[Value.ref b] (kg_s G) = true := h1 _ (lw_all_tbl q46)
  obtain ⟨t, e1, e2⟩ := va_Tof (tm := .static "java/util/ArrayList" "EMPTY_ELEMENTDATA" "[Ljava/lang/Object;") (N := 0) (f := fun _ => .null) (by decide) (h2 (.arrayOf (.static "java/util/ArrayList" "EMPTY_ELEMENTDATA" "[Ljava/lang/Object;") (.object "java/lang/Object")) (by decide +kernel)) (va_eqt (h2 (.eq (.length (.static "java/util/ArrayList" "EMPTY_ELEMENTDATA" "[Ljava/lang/Object;")) (.int 0)) (by decide +kernel))) (fun j hj => absurd hj (Nat.not_lt_zero j)) (kf_old (G := G))
  rw [kg_e1, kf_static e1]
  exact ⟨va_Zref hl hi e1 kf_old, e2⟩
section
variable {G : kr_G} {x : kr_X} {y : MethodName} {cc : ByteArray} {nL : Nat} {ret : Option FieldType} {rm : Room} {hh : List (Nat × Nat × Nat × Nat)} {Q : State → Prop} {P P' : Heap → Prop} {cs ss pc : Nat} {lv lv' : List (Option Value)} {st : List Value}
theorem kr_e.at {n : String} {a : Nat} (X : kr_C G x y cc nL ret rm hh) (h : kr_e G n a (kg_s G)) : kr_e G n a (kx_s x) := by
  have hk : ∀ q : Nat, q < (kg_s G).heap.size → ¬ kr_old G q → (kx_s x).heap[q]? = (kg_s G).heap[q]? := fun q h1 _ => X.base.2 q h1
  exact ⟨(h.1.moved X.warm.alike).kept hk, (h.2.moved X.warm.alike).kept hk⟩
/-- getstatic of one of the two empty rows -/
theorem kj_gets (X : kr_C G x y cc nL ret rm hh) {n : String} {a index : Nat} (h : kr_e G n a (kg_s G)) (hlink : Cond.fieldLink y.cls index "java/util/ArrayList" n "[Ljava/lang/Object;" ∈ lw_all) (hdg : decode cc pc = .ok (.getstatic index, 3))
    (k : kr_J G x nL Q P cs ss (pc + 3) lv (.ref a :: st)) : kr_J G x nL Q P cs ss pc lv st := fun H locs ls hH hS hl =>
  va_gets X.1 X.2.1 (h.at X).1 hS X.2.2.2.1 (X.hts _ hlink) (fun _ h => h) hdg (k H locs ls hH hS hl)
theorem kj_tlen (X : kr_C G x y cc nL ret rm hh) {n : String} {a : Nat} (h : kr_e G n a (kg_s G)) (hdg : decode cc pc = .ok (.arraylength, 1))
    (k : kr_J G x nL Q P cs ss (pc + 1) lv (.int 0 :: st)) : kr_J G x nL Q P cs ss pc lv (.ref a :: st) := fun H locs ls hH hS hl =>
  va_tlen X.1 X.2.1 (h.at X).2 hS (v := 0) rfl hdg (k H locs ls hH hS hl)
theorem kr_C.mi (X : kr_C G x y cc nL ret rm hh) {C : String} (hC : C = "[Ljava/lang/Object;" ∨ C = "java/util/ArrayList") : ∃ mi, va_Mi C mi (kx_s x) := by
  obtain ⟨b, h1, h2⟩ := kf_given X.F
  have : ∃ mi, va_Mi C mi (kg_s G) := by
    rcases hC with rfl | rfl
    · exact va_Mi.of (h2 (.isRef (.mirror "[Ljava/lang/Object;")) (by decide +kernel))
    · exact va_Mi.of (h2 (.isRef (.mirror "java/util/ArrayList")) (by decide +kernel))
  obtain ⟨mi, h⟩ := this
  exact ⟨mi, h.moved X.warm.alike⟩
/-- a class constant -/
theorem kj_ldcM (X : kr_C G x y cc nL ret rm hh) {C : String} {index mi : Nat} (hM : va_Mi C mi (kx_s x)) (hlink : Cond.classLink y.cls index C ∈ lw_all) (hdg : decode cc pc = .ok (.ldc index, 2))
    (k : kr_J G x nL Q P cs ss (pc + 2) lv (.ref mi :: st)) : kr_J G x nL Q P cs ss pc lv st := fun H locs ls hH hS hl =>
  va_ldcM X.1 X.2.1 X.2.2.2.1 (X.hts _ hlink) hM hdg (k H locs ls hH hS hl)
/-- getClass of an array of Objects -/
theorem kj_getC (X : kr_C G x y cc nL ret rm hh) {index mi a : Nat} (hM : va_Mi "[Ljava/lang/Object;" mi (kx_s x)) (hlink : Cond.methodLink y.cls index ⟨"java/lang/Object", "getClass", "()Ljava/lang/Class;"⟩ ∈ lw_all) (hdg : decode cc pc = .ok (.invokevirtual index, 3)) (hr : ∀ H, P H → va_S (kr_old G) (kx_s x).heap H [] → ∃ cell : Cell, H[a]? = some cell ∧ cell.vm.isStatics = false ∧ (kx_s x).vm.findClass "[Ljava/lang/Object;" = some cell.cls) (hf : 1 ≤ rm.frames) (hlo : (st.map fun v => v.category).sum + 14 ≤ rm.locals)
    (k : kr_J G x nL Q P cs ss (pc + 3) lv (.ref mi :: st)) : kr_J G x nL Q P cs ss pc lv (.ref a :: st) := fun H locs ls hH hS hl => by
  have hR := X.room
  obtain ⟨b, h1, h2⟩ := kf_given X.F
  refine va_getC X.1 X.2.1 (by rw [hl.1]; exact X.2.2.1) X.2.2.2.1 (X.hts _ hlink) (va_Dc.use (va_Dc.moved X.warm.alike (va_Dc.of (h1 _ q1421)))) (X.hts _ q1917) (X.hts _ q180) (X.hts _ q210) hM (hr H hH ⟨hS.1, hS.2.1, fun _ h => by cases h⟩) (by show 1 ≤ (kx_R x).frames; rw [hR]; exact hf) (by show _ ≤ (kx_R x).locals; rw [hR]; exact hlo) hdg (k H locs ls hH hS hl)
theorem kr_arrC (X : kr_C G x y cc nL ret rm hh) {H : Heap} {a : Nat} {z : vp_A} (h : kr_own G a (.inl (kg_A G 6, z)) H) : ∃ cell : Cell, H[a]? = some cell ∧ cell.vm.isStatics = false ∧ (kx_s x).vm.findClass "[Ljava/lang/Object;" = some cell.cls := by
  obtain ⟨kA, comp, -, -, -, h4⟩ := (X.K.2 6 _ rfl).2
  refine ⟨_, h.1, ?_, ?_⟩
  · obtain ⟨n, w⟩ := z
    rcases w with w | w | w | w | w <;> rfl
  · obtain ⟨n, w⟩ := z
    rcases w with w | w | w | w | w <;> exact h4
/-- checkcast of an array -/
theorem kj_castA (X : kr_C G x y cc nL ret rm hh) {nm : String} {index a ti : Nat} {z : vp_A} (hlink : Cond.classLink y.cls index nm ∈ lw_all) (hnm : (kx_s x).vm.findClass nm = some (kg_A G ti)) (hdg : decode cc pc = .ok (.checkcast index, 3)) (hP : ∀ H, P H → kr_own G a (.inl (kg_A G ti, z)) H)
    (k : kr_J G x nL Q P cs ss (pc + 3) lv (.ref a :: st)) : kr_J G x nL Q P cs ss pc lv (.ref a :: st) := fun H locs ls hH hS hl =>
  va_castA X.1 X.2.1 X.2.2.2.1 (X.hts _ hlink) (kr_one (hP H hH).1) 0 rfl hnm hdg (k H locs ls hH hS hl)
theorem kr_nameO (X : kr_C G x y cc nL ret rm hh) : (kx_s x).vm.findClass "[Ljava/lang/Object;" = some (kg_A G 6) := by
  obtain ⟨kA, comp, -, -, -, h4⟩ := (X.K.2 6 _ rfl).2
  exact h4
/-- Math.max, Math.min -/
theorem kj_max (X : kr_C G x y cc nL ret rm hh) {index : Nat} {x0 y0 : Int32} (hlink : Cond.methodLink y.cls index Lib.Math.max.name ∈ lw_all) (hdg : decode cc pc = .ok (.invokestatic index, 3)) (hf : 1 ≤ rm.frames) (hlo : (st.map fun v => v.category).sum + 13 ≤ rm.locals) (hc : cs ≤ rm.cells) (hs : ss ≤ rm.slots)
    (k : kr_J G x nL Q P cs ss (pc + 3) lv (.int (if x0 < y0 then y0 else x0) :: st)) : kr_J G x nL Q P cs ss pc lv (.int y0 :: .int x0 :: st) := fun H locs ls hH hS hl => by
  have hR := X.room
  exact va_mmax X.1 X.2.1 (by rw [hl.1]; exact X.2.2.1) X.2.2.2.1 (X.hts _ hlink) (X.hts _ q170) (X.hts _ q49) (X.hts _ q171) (by show 1 ≤ (kx_R x).frames; rw [hR]; exact hf) (by show _ ≤ (kx_R x).locals; rw [hR]; exact hlo) (by show _ ≤ (kx_R x).cells; rw [hR]; exact hc) (by show _ ≤ (kx_R x).slots; rw [hR]; exact hs) hdg (k H locs ls hH hS hl)
theorem kj_min (X : kr_C G x y cc nL ret rm hh) {index : Nat} {x0 y0 : Int32} (hlink : Cond.methodLink y.cls index Lib.Math.min.name ∈ lw_all) (hdg : decode cc pc = .ok (.invokestatic index, 3)) (hf : 1 ≤ rm.frames) (hlo : (st.map fun v => v.category).sum + 13 ≤ rm.locals) (hc : cs ≤ rm.cells) (hs : ss ≤ rm.slots)
    (k : kr_J G x nL Q P cs ss (pc + 3) lv (.int (if y0 < x0 then y0 else x0) :: st)) : kr_J G x nL Q P cs ss pc lv (.int y0 :: .int x0 :: st) := fun H locs ls hH hS hl => by
  have hR := X.room
  exact va_mmin X.1 X.2.1 (by rw [hl.1]; exact X.2.2.1) X.2.2.2.1 (X.hts _ hlink) (X.hts _ q218) (X.hts _ q49) (X.hts _ q219) (by show 1 ≤ (kx_R x).frames; rw [hR]; exact hf) (by show _ ≤ (kx_R x).locals; rw [hR]; exact hlo) (by show _ ≤ (kx_R x).cells; rw [hR]; exact hc) (by show _ ≤ (kx_R x).slots; rw [hR]; exact hs) hdg (k H locs ls hH hS hl)
theorem kr_nn {z : Int32} (hz : ¬ z < 0) : z.toInt = (z.toNatClampNeg : Int) := by
  have hz0 : (0 : Int) ≤ z.toInt := by
    have := Int32.not_lt.mp hz
    simpa using Int32.le_iff_toInt_le.mp this
  show z.toInt = ((z.toInt.toNat : Nat) : Int)
  omega
/-- an object of a class of the list that an array of E's takes -/
def kr_ok (G : kr_G) (E : String) (a : Nat) (H : Heap) : Prop := ∃ (c : Nat) (C : String) (T : u_T) (N : Nat) (fs : List Value), kr_cl[c]? = some (C, T, N) ∧ va_at (kg_D G) kr_cl (a, .inr (c, fs)) H ∧ (C = E ∨ Cond.castable C E ∈ lw_tbl)
theorem kr_ok.cell (X : kr_C G x y cc nL ret rm hh) {E : String} {a : Nat} {H : Heap} (h : kr_ok G E a H) : ∃ (cell : Cell) (kC : Class), H[a]? = some cell ∧ cell.vm.isStatics = false ∧ (kx_s x).vm.classes[cell.cls]? = some kC ∧ ∀ comp : ClassId, (kx_s x).vm.findClass E = some comp → (kx_s x).vm.assignable cell.cls comp = true := by
  obtain ⟨c, C, T, N, fs, hc, ⟨r', hr', cellV, g1, g2, g3, -⟩, hcast⟩ := h
  have hcls := (X.K.1 c _ hc).2
  obtain ⟨kC, hkC, hkind⟩ := hcls.2
  refine ⟨cellV, kC, g1, by rw [g3]; rfl, by rw [g2]; exact hkC, fun comp hcomp => ?_⟩
  rw [g2]
  rcases hcast with e | e
  · subst e
    have : comp = (kg_D G).1 c := Option.some.inj (hcomp.symm.trans hcls.1)
    subst this
    exact va_assign hcls
  · obtain ⟨c3, c4, hc3, hc4, hasg⟩ := Cond.castable_spec (X.cast e)
    cases Option.some.inj (hc3.symm.trans hcls.1)
    cases Option.some.inj (hc4.symm.trans hcomp)
    exact hasg
/-- System.arraycopy between rows of references -/
theorem kj_copy (X : kr_C G x y cc nL ret rm hh) {index a0 a n0 n1 : Nat} {f g : Nat → Option Nat} {E0 E1 : String} {sp dp n : Int32} (t0 t1 : Nat) (ht0 : (kr_tys (kg_A G))[t0]? = some (kg_A G t0, .object E0)) (ht1 : (kr_tys (kg_A G))[t1]? = some (kg_A G t1, .object E1)) (hlink : Cond.methodLink y.cls index arraycopyName ∈ lw_all) (hdg : decode cc pc = .ok (.invokestatic index, 3))
    (hP0 : ∀ H, P H → kr_own G a0 (.inl (kg_A G t0, n0, .inr (.inr (.inr (.inr f))))) H) (hP1 : ∀ H, P H → kr_own G a (.inl (kg_A G t1, n1, .inr (.inr (.inr (.inr g))))) H)
    (h1 : ¬ sp < 0) (h2 : ¬ dp < 0) (h3 : ¬ n < 0) (h4 : sp.toNatClampNeg + n.toNatClampNeg ≤ n0) (h5 : dp.toNatClampNeg + n.toNatClampNeg ≤ n1) (hel : ∀ H, P H → ∀ i : Nat, i < n.toNatClampNeg → ∀ b : Nat, f (sp.toNatClampNeg + i) = some b → kr_ok G E1 b H)
    (hf : 1 ≤ rm.frames) (hlo : (st.map fun v => v.category).sum + (nativeFrameWords "java/lang/System" "arraycopy" 5 + 11) ≤ rm.locals)
    (hput : ∀ H H1, P H → va_at (kg_D G) kr_cl (a, .inl (kg_A G t1, n1, .inr (.inr (.inr (.inr (va_cpy f g sp.toNatClampNeg dp.toNatClampNeg n.toNatClampNeg)))))) H1 → kr_upd H H1 a → P' H1)
    (k : kr_J G x nL Q P' cs ss (pc + 3) lv st) : kr_J G x nL Q P cs ss pc lv (.int n :: .int dp :: .ref a :: .int sp :: .ref a0 :: st) := fun H locs ls hH hS hl => by
  have hR := X.room
  intro T hT Y
  have hc0 : H[a0]? = some (vp_cell (kg_A G t0) (n0, .inr (.inr (.inr (.inr f))))) := (hP0 H hH).1
  have hc1 : H[a]? = some (vp_cell (kg_A G t1) (n1, .inr (.inr (.inr (.inr g))))) := (hP1 H hH).1
  obtain ⟨-, k0, hk0, cm0, hkk0⟩ := (X.K.2 t0 _ ht0).1 n0 (fun j => va_rf (f j))
  obtain ⟨-, k1, hk1, cm1, hkk1⟩ := (X.K.2 t1 _ ht1).1 n1 (fun j => va_rf (g j))
  obtain ⟨vm', X', step⟩ := Y.arraycopy X.1 X.2.2.2.1 (X.hts _ hlink) (X.hts _ q222) (X.hts _ q221) (X.hts _ q51) (src := a0) (dst := a) (cs := vp_cell (kg_A G t0) (n0, .inr (.inr (.inr (.inr f))))) (cd := vp_cell (kg_A G t1) (n1, .inr (.inr (.inr (.inr g))))) (srcPos := sp) (destPos := dp) (n := n) (by rw [hT]; exact hc0) (by rw [hT]; exact hc1)
    (fun _ h => by cases h) (fun _ h => by cases h) (fun h => by cases h) (fun h => by cases h) hk0 hk1 hkk0 hkk1 rfl h1 h2 h3
    (by rw [kr_nn h1, kr_nn h3]; show ¬ _ > ((arrV (kg_A G t0) n0 (fun j => va_rf (f j))).slots.size : Int); rw [arrV_size]; omega)
    (by rw [kr_nn h2, kr_nn h3]; show ¬ _ > ((arrV (kg_A G t1) n1 (fun j => va_rf (g j))).slots.size : Int); rw [arrV_size]; omega)
    (fun vm₁ hal i hi => by
      have e : (vp_cell (kg_A G t0) (n0, .inr (.inr (.inr (.inr f))))).slots.getD (sp.toNatClampNeg + i) .null = va_rf (f (sp.toNatClampNeg + i)) := by
        show (arrV (kg_A G t0) n0 (fun j => va_rf (f j))).slots.getD _ _ = _
        rw [Array.getD_eq_getD_getElem?, arrV_read _ _ (by omega)]
        rfl
      rw [e]
      cases hy : f (sp.toNatClampNeg + i) with
      | none => exact ⟨rfl, trivial⟩
      | some b =>
        obtain ⟨cellV, kC, g1, g2, g3, g4⟩ := (hel H hH i hi b hy).cell X
        obtain ⟨kA, comp, r1, r2, r3, -⟩ := (X.K.2 t1 _ ht1).2
        cases hk1.symm.trans r1
        cases hkk1.symm.trans r2
        obtain ⟨kE, hkE, -⟩ := Vm.findClass_spec r3
        obtain ⟨kC', hkC', -⟩ := hal.2.2 _ _ g3
        obtain ⟨kE', hkE', -⟩ := hal.2.2 _ _ hkE
        refine ⟨rfl, cellV, (show T.heap[b]? = some cellV by rw [hT]; exact g1), (fun q h => by rw [h] at g2; cases g2), ⟨kC', hkC'⟩, ?_, ?_⟩
        · exact ⟨kE', hkE'⟩
        · show vm₁.assignable _ _ = true
          rw [hal.assignable]
          exact g4 _ r3)
    (g := F0 (kx_m x) pc ls (.int n :: .int dp :: .ref a :: .int sp :: .ref a0 :: st)) rfl (by rw [X.2.2.1]; exact hl.1) (rest := st) rfl (by rw [X.2.1]; exact hdg) (by show 1 ≤ (kx_R x).frames; rw [hR]; exact hf) (by show 2 * 0 + _ + _ ≤ (kx_R x).locals; rw [hR]; omega)
  have e1 : copied (vp_cell (kg_A G t0) (n0, .inr (.inr (.inr (.inr f))))) (vp_cell (kg_A G t1) (n1, .inr (.inr (.inr (.inr g))))) sp dp n = vp_cell (kg_A G t1) (n1, .inr (.inr (.inr (.inr (va_cpy f g sp.toNatClampNeg dp.toNatClampNeg n.toNatClampNeg))))) := by
    rw [vp_cell_q, vp_cell_q, vp_cell_q]
    exact va_copied (fun z => va_rf z) (kg_A G t0) (kg_A G t1) f g h4
  rw [e1] at X' step
  have hla : a < H.size := (Array.getElem?_eq_some_iff.mp hc1).1
  generalize hz : vp_cell (kg_A G t1) (n1, .inr (.inr (.inr (.inr (va_cpy f g sp.toNatClampNeg dp.toNatClampNeg n.toNatClampNeg))))) = cz at X' step
  have hheap : ((T.setVm vm').setCell a cz).heap = H.setIfInBounds a cz := by rw [← hT]; rfl
  have u : kr_upd H (H.setIfInBounds a cz) a := ⟨by simp, fun q hq => by simp [Array.getElem?_setIfInBounds, Ne.symm hq]⟩
  obtain ⟨t, a1, b1⟩ := k _ _ ls (hput H _ hH (show (H.setIfInBounds a cz)[a]? = some _ by rw [hz]; simp [Array.getElem?_setIfInBounds, hla]) u) ⟨by simp; exact hS.1, fun q g1 g2 => by
      rw [u.2 q (fun e => g2 (by rw [e]; exact (hP1 H hH).2))]
      exact hS.2.1 q g1 g2, fun q hq => by
      rcases List.mem_append.mp hq with h | h
      · exact hS.2.2 q h
      · obtain ⟨w, -, hw⟩ := List.mem_map.mp h
        rw [← hw]
        exact (hP1 H hH).2⟩ hl _ hheap X'
  exact ⟨t, step t a1, b1⟩
/-- System.arraycopy of nothing, out of an empty row that lay there before -/
theorem kj_copy0 (X : kr_C G x y cc nL ret rm hh) {nm : String} {index a0 a n1 : Nat} {g : Nat → Option Nat} {E1 : String} (t1 : Nat) (ht1 : (kr_tys (kg_A G))[t1]? = some (kg_A G t1, .object E1)) (h : kr_e G nm a0 (kg_s G)) (hlink : Cond.methodLink y.cls index arraycopyName ∈ lw_all) (hdg : decode cc pc = .ok (.invokestatic index, 3))
    (hP1 : ∀ H, P H → kr_own G a (.inl (kg_A G t1, n1, .inr (.inr (.inr (.inr g))))) H)
    (hf : 1 ≤ rm.frames) (hlo : (st.map fun v => v.category).sum + (nativeFrameWords "java/lang/System" "arraycopy" 5 + 11) ≤ rm.locals)
    (k : kr_J G x nL Q P cs ss (pc + 3) lv st) : kr_J G x nL Q P cs ss pc lv (.int 0 :: .int 0 :: .ref a :: .int 0 :: .ref a0 :: st) := fun H locs ls hH hS hl => by
  have hR := X.room
  intro T hT Y
  obtain ⟨scr, hs1, ⟨hs2, k0, hk0, cm0, hkk0⟩, hs3, -, -, -, hs7⟩ := (h.at X).2
  have hc0 : H[a0]? = some scr := by rw [hS.2.1 a0 (Array.getElem?_eq_some_iff.mp hs1).1 hs7]; exact hs1
  have hc1 : H[a]? = some (vp_cell (kg_A G t1) (n1, .inr (.inr (.inr (.inr g))))) := (hP1 H hH).1
  obtain ⟨-, k1, hk1, cm1, hkk1⟩ := (X.K.2 t1 _ ht1).1 n1 (fun j => va_rf (g j))
  obtain ⟨vm', X', step⟩ := Y.arraycopy X.1 X.2.2.2.1 (X.hts _ hlink) (X.hts _ q222) (X.hts _ q221) (X.hts _ q51) (src := a0) (dst := a) (cs := scr) (cd := vp_cell (kg_A G t1) (n1, .inr (.inr (.inr (.inr g))))) (srcPos := 0) (destPos := 0) (n := 0) (by rw [hT]; exact hc0) (by rw [hT]; exact hc1)
    hs2 (fun _ h => by cases h) hs3 (fun h => by cases h) hk0 hk1 hkk0 hkk1 rfl (by decide) (by decide) (by decide)
    (by show ¬ ((0 : Int) + 0 > _); omega)
    (by show ¬ ((0 : Int) + 0 > _); omega)
    (fun vm₁ hal i hi => absurd hi (Nat.not_lt_zero i))
    (g := F0 (kx_m x) pc ls (.int 0 :: .int 0 :: .ref a :: .int 0 :: .ref a0 :: st)) rfl (by rw [X.2.2.1]; exact hl.1) (rest := st) rfl (by rw [X.2.1]; exact hdg) (by show 1 ≤ (kx_R x).frames; rw [hR]; exact hf) (by show 2 * 0 + _ + _ ≤ (kx_R x).locals; rw [hR]; omega)
  have e1 : copied scr (vp_cell (kg_A G t1) (n1, .inr (.inr (.inr (.inr g))))) 0 0 0 = vp_cell (kg_A G t1) (n1, .inr (.inr (.inr (.inr g)))) := by
    rw [vp_cell_q]
    have := va_copiedX (fun z => va_rf z) scr (kg_A G t1) (sp := 0) (dp := 0) (n := 0) (n1 := n1) (fun _ => none) g (fun j hj => absurd hj (Nat.not_lt_zero j)) (Nat.le_refl 0)
    refine this.trans ?_
    have e2 : (va_cpy (fun _ => none) g 0 0 0 : Nat → Option Nat) = g := by
      funext q
      simp [va_cpy]
    rw [e2]
  rw [e1] at X' step
  have hla : a < H.size := (Array.getElem?_eq_some_iff.mp hc1).1
  have hheap : ((T.setVm vm').setCell a (vp_cell (kg_A G t1) (n1, .inr (.inr (.inr (.inr g)))))).heap = H := by
    show T.heap.setIfInBounds a _ = H
    rw [hT]
    apply Array.ext_getElem?
    intro q
    by_cases hq : a = q
    · subst hq
      rw [Array.getElem?_setIfInBounds, if_pos rfl, if_pos hla]
      exact hc1.symm
    · simp [Array.getElem?_setIfInBounds, hq]
  obtain ⟨t, a1, b1⟩ := k H _ ls hH ⟨hS.1, hS.2.1, fun q hq => by
      rcases List.mem_append.mp hq with h | h
      · exact hS.2.2 q h
      · obtain ⟨w, -, hw⟩ := List.mem_map.mp h
        rw [← hw]
        exact (hP1 H hH).2⟩ hl _ hheap X'
  exact ⟨t, step t a1, b1⟩
end
