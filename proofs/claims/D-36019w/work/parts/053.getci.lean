/-! getClass of a list through java.util.Collection -/
set_option maxRecDepth 100000
theorem kr_found_alike {u U : State} (h : u.vm.Alike U.vm) (c n d : String) : U.methodFound? c n d = u.methodFound? c n d := by
  unfold State.methodFound?
  rw [h.findClass]
  cases hc : u.vm.findClass c with
  | none => rfl
  | some i =>
    simp only [Option.bind_eq_bind, Option.bind_some]
    cases hk : u.vm.classes[i]? with
    | none =>
      rw [h.none hk]
      rfl
    | some k =>
      obtain ⟨k', hk', he⟩ := h.2.2 _ _ hk
      have hi : k'.isInterface = k.isInterface := by rw [he]; rfl
      rw [hk']
      simp only [Option.bind_some, hi, Lambda.methodIn_ask_alike h]
abbrev kr_gcN : MethodName := ⟨"java/lang/Object", "getClass", "()Ljava/lang/Class;"⟩
abbrev kr_gcC : MethodName := ⟨"java/util/Collection", "getClass", "()Ljava/lang/Class;"⟩
section
variable {G : kr_G} {x : kr_X} {y : MethodName} {cc : ByteArray} {nL : Nat} {ret : Option FieldType} {rm : Room} {hh : List (Nat × Nat × Nat × Nat)} {Q : State → Prop} {P P' : Heap → Prop} {cs ss pc : Nat} {lv lv' : List (Option Value)} {st : List Value}
theorem kf_faceC (X : kr_C G x y cc nL ret rm hh) : (Cond.interfaceMethod "java/util/Collection" "java/lang/Object" "getClass" "()Ljava/lang/Class;").before (kx_a x) (kx_s x) = true ∧ (Cond.selects "java/util/ArrayList" kr_gcC kr_gcN).before (kx_a x) (kx_s x) = true ∧
    (Cond.declares kr_gcN).before (kx_a x) (kx_s x) = true ∧ (Cond.publicMethod kr_gcN).before (kx_a x) (kx_s x) = true ∧ (Cond.unhidden "java/util/ArrayList" "getClass" "()Ljava/lang/Class;").before (kx_a x) (kx_s x) = true ∧ (Cond.castable "java/util/ArrayList" "java/util/Collection").before (kx_a x) (kx_s x) = true := by
  obtain ⟨⟨b0, h1, -⟩, -⟩ := X.F
  have hA := X.warm.alike
  obtain ⟨i, ki, m, g1, g2, g3, g4, g5⟩ := Cond.interfaceMethod_spec (h1 _ q1420)
  obtain ⟨ki', hk', he⟩ := hA.2.2 _ _ g2
  have f1 : (kx_s x).vm.findClass "java/util/Collection" = some i := by rw [hA.findClass]; exact g1
  have f2 : ki'.isInterface = true := by rw [he]; exact g3
  have f3 : (kx_s x).methodFound? "java/util/Collection" "getClass" "()Ljava/lang/Class;" = some m := by rw [kr_found_alike hA]; exact g4
  have f4 : (kx_s x).methodNamed? kr_gcN = some m := by
    have := State.methodNamed?_setVm (s := kg_s G) hA kr_gcN
    rw [g5] at this
    exact this
  have f5 : (kx_s x).methodFound? "java/lang/Object" "getClass" "()Ljava/lang/Class;" = some m := State.methodFound?_of_named (x := kr_gcN) f4 (by decide)
  have tr : ∀ w : Cond, w.onTables = true → w.before #[Value.ref b0] ((kg_s G).setVm (kx_s x).vm) = true → w.before (kx_a x) (kx_s x) = true := fun w hw h => va_tabs hw (rfl : ((kg_s G).setVm (kx_s x).vm).vm = (kx_s x).vm) h
  refine ⟨?_, ?_, ?_, ?_, ?_, ?_⟩
  · simp [Cond.before, Cond.holds, Cond.value, f1, f3, f4, hk', f2]
  · have h207 := X.hts _ q207
    simp only [Cond.before, Cond.holds, Cond.value, f3, f4, f5] at h207 ⊢
    exact h207
  · exact tr _ rfl (by rw [Cond.declares_setVm hA]; exact h1 _ q1421)
  · exact tr _ rfl (by rw [Cond.publicMethod_setVm hA]; exact h1 _ q1423)
  · exact tr _ rfl (by rw [Cond.unhidden_setVm hA]; exact h1 _ q1422)
  · exact tr _ rfl (by rw [Cond.castable_setVm hA]; exact h1 _ q1412)
theorem kj_getCI (X : kr_C G x y cc nL ret rm hh) {index count mi a : Nat} (hM : va_Mi "java/util/ArrayList" mi (kx_s x)) (hlink : Cond.methodLink y.cls index kr_gcC ∈ lw_all) (hdg : decode cc pc = .ok (.invokeinterface index count, 5)) (hr : ∀ H, P H → ∃ fs, va_at (kg_D G) kr_cl (a, .inr (17, fs)) H) (hf : 1 ≤ rm.frames) (hlo : (st.map fun v => v.category).sum ≤ 8 ∧ 30 ≤ rm.locals)
    (k : kr_J G x nL Q P cs ss (pc + 5) lv (.ref mi :: st)) : kr_J G x nL Q P cs ss pc lv (.ref a :: st) := fun H locs ls hP hS hl => by
  have e := X.room
  obtain ⟨w1, w2, w3, w4, w5, w6⟩ := kf_faceC X
  intro T hT X0
  obtain ⟨c, kk, h1, h2, h3⟩ := hM
  obtain ⟨fs, hat⟩ := hr H hP
  obtain ⟨cell, c1, c2, c3⟩ := va_recv X.K (kr_one hat) kc_J2.1 (q0 := 0) rfl
  have hrecv : IsOf c T a := by
    have c3' : (kx_s x).vm.findClass "java/util/ArrayList" = some cell.cls := c3
    rw [h1] at c3'
    exact ⟨cell, by rw [hT]; exact c1, (Option.some.inj c3').symm, c2⟩
  obtain ⟨vm₁, X₁, hst⟩ := X0.getClassOfI X.1 (own := y.cls) X.2.2.2.1 (X.hts _ hlink) w3 w1 w2 (X.hts _ q180) w4 w5 w6 (X.hts _ q210) (by decide) (by decide) rfl rfl h1 h2 hrecv h3 (g := F0 (kx_m x) pc ls (.ref a :: st)) rfl (by show ls.size = _; rw [hl.1]; exact X.2.2.1.symm) rfl (by rw [X.2.1]; exact hdg) (by show 1 ≤ (kx_R x).frames; rw [e]; exact hf) (by
    have h3 := lv_room (m := kx_m x) (pc := pc) (ls := ls) (rest := Value.ref a :: st) hlo.1
    have h4 : 2 * (F0 (kx_m x) pc ls (.ref a :: st)).monitorRoom + (st.map fun v => v.category).sum ≤ 8 := h3
    have h5 : nativeFrameWords "java/lang/Object" "getClass" 1 = 3 := by decide
    show 2 * (F0 (kx_m x) pc ls (.ref a :: st)).monitorRoom + (st.map fun v => v.category).sum + (nativeFrameWords "java/lang/Object" "getClass" 1 + 11) ≤ (kx_R x).locals
    rw [e, h5]
    omega)
  obtain ⟨t, a1, b1⟩ := k H locs ls hP hS hl (T.setVm vm₁) hT X₁
  exact ⟨t, hst t a1, b1⟩
end
