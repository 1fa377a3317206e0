/-! LAMBDAS: the forward of a call of a made object to its static method -/
set_option maxRecDepth 100000
theorem kr_lnamed {s : State} {y : MethodName} {m t : MethodId} {own : ClassId} {tk : Class} (hn : s.methodNamed? y = some m) (hy : y.cls ≠ "java/lang/invoke/MethodHandle" ∧ y.cls ≠ "java/lang/invoke/VarHandle") (hf : s.vm.findClass y.cls = some own) (hk : s.vm.classes[own]? = some tk) {via : Bool} (hv : tk.isInterface = via) (h : ((methodIn own y.name y.desc via none).ask { classPath := fun _ => none } s.vm).1 = .ok t) : t = m := by
  have e := State.methodFound?_of_named hn hy
  subst hv
  simp only [State.methodFound?, hf, hk, Option.bind_eq_bind, Option.bind_some, h, Except.toOption, Option.some.injEq] at e
  exact e
theorem kr_nopoly {k : Class} {n : String} (hk : k.name = n) (hn : n ≠ "java/lang/invoke/MethodHandle" ∧ n ≠ "java/lang/invoke/VarHandle") (y : Method) : signaturePolymorphic k y = false := by
  simp [signaturePolymorphic, hk, hn.1, hn.2]
theorem kr_zd0_0 : decode kr_z0.1 0 = .ok (.aload_n 1, 1) := by decide +kernel
theorem kr_zd0_1 : decode kr_z0.1 1 = .ok (.invokestatic 17, 3) := by decide +kernel
theorem kr_zd0_4 : decode kr_z0.1 4 = .ok (.ireturn, 1) := by decide +kernel
theorem kr_fw0 {p : Program} {l : Launch} {e : Env} {R : Room} {s : State} {m : MethodId} {args : Array Value} {below : List Frame} {meth : Method} {c : Code} {T : State} {locs : List Loc} {cells slots : Nat} (X : Stand p l e R s m args below meth c T locs cells slots) (hexec : p.tables.exec = Jvm.exec) {g : JFrame} (hg : g.method = m) (hsize : g.locals.size = c.maxLocals) {ig : Instr} {len : Nat} (hdg : decode c.code g.pc = .ok (ig, len))
    {k : Nat} (hok : kr_lok k kr_z0)  {d cK : ClassId} {dk : Class} (hd : T.vm.classes[d]? = some dk) (hname : dk.name = (kr_sy k).cls) (hmade : Lambda.isMade { classPath := fun _ => none } T.vm d (kr_shp k) cK = true)
    (hO : ∀ o ok, T.vm.findClass "java/lang/Object" = some o → T.vm.classes[o]? = some ok → ok.instanceTypes.size = 0) {a b : Nat}  (hpk : T.plainMethod ⟨cK, 1⟩)
    {yS : MethodName} {mS : MethodId} {methS : Method} (hy : yS = ⟨(kr_shp k).implClass, (kr_shp k).implName, (kr_shp k).implDesc.toString⟩) (hyn : yS.cls ≠ "java/lang/invoke/MethodHandle" ∧ yS.cls ≠ "java/lang/invoke/VarHandle") (hn : T.methodNamed? yS = some mS) (hm : T.vm.method? mS = some methS) (hst : methS.isStatic = true) (hpar : methS.sig.parameters.length = 1) (hinit : ∀ kk, T.vm.classes[mS.cls]? = some kk → kk.init = .initialized)
    {R' : Room} {Pre : Pt → Array Value → Prop} {Post : Pt → Array Value → Option Value → Pt → Prop} {PostX : Pt → Array Value → Addr → Pt → Prop} (hK : ∀ (s' : State) (a' : Array Value), s'.vm = T.vm → s'.heap = T.heap → vx_Back l R' p e (.java g :: below) s' a' yS 3 8 Pre Post PostX) (hpre : ∀ U : State, U.heap = T.heap → U.vm = T.vm → Pre ⟨U, [], 0, 0⟩ #[.ref b])
    (hres : ∀ A a' v B, Post A a' v B → ∃ r : Bool, v = some (.int (kr_b r))) (hnx : ∀ A a' q B, ¬ PostX A a' q B)
    (hframes : R'.frames + 1 ≤ R.frames) (hlocals : 2 * g.monitorRoom + (g.stack.map fun v => v.category).sum + (2 + 11) + R'.locals ≤ R.locals) (hcells : cells + R'.cells ≤ R.cells) (hslots : slots + R'.slots ≤ R.slots) :
    ∃ (v : Option Value) (U : State) (B : Pt) (T' : State), U.heap = T.heap ∧ U.vm = T.vm ∧ Post ⟨U, [], 0, 0⟩ #[.ref b] v B ∧ T'.heap = B.U.heap ∧ T'.vm = B.U.vm ∧ Stand p l e R s m args below meth c T' (locs ++ B.locs) (cells + B.cells) (slots + B.slots) ∧
      ∀ acts, Steps p.tables e below (doInvoke e (T.setTop g) acts ⟨cK, 1⟩ #[.ref a, .ref b]).1 (T'.setTop { g with pc := g.pc + len, stack := v.toList ++ g.stack }) := by
  have hok' := hok
  obtain ⟨-, -, -, -, -, g6, -, g8, -⟩ := hok'
  obtain ⟨kc, tk, file, methk, ck, own, iface, t, found, hk, hkn, hfile, hpool, hmk, hck, hbytes, hml, hlk, hfl, hretk, hown, htk, hlook, hready, hclsR, hfld, -, -, -, -, -⟩ := kr_lmade hok hd hname hmade hO
  have htm : t = mS := kr_lnamed hn hyn (by rw [hy]; exact hown) htk rfl (by rw [hy]; exact hlook)
  subst htm
  have htc : t.cls = own := by
    have h1 := findClass_of_methodNamed hn
    rw [hy] at h1
    exact Option.some.inj (h1.symm.trans hown)
  obtain ⟨tk', htk', htn⟩ := className_of_methodNamed hn
  rw [htc] at htk'
  cases htk.symm.trans htk'
  have hpoly : ∀ y, signaturePolymorphic tk y = false := kr_nopoly htn hyn
  obtain ⟨b9, hmem⟩ := memberRef_ask' (e := e) (vm := T.vm) (d := cK) (index := 17) hk hfile (Or.inl (by rw [hpool]; exact g6)) (by rw [hpool]; exact g8)
  obtain ⟨Y₀, hin⟩ := X.into (mk := ⟨cK, 1⟩) hg hsize hdg #[.ref a, .ref b] (R' := R') hmk hck hlk hpk hframes (by rw [hml]; exact hlocals) hcells hslots
  generalize hU : (T.setTop g).pushFrame (.java (entryFrame ⟨cK, 1⟩ #[.ref a, .ref b] ck.maxLocals)) = U at Y₀ hin
  have hvm : U.vm = T.vm := by rw [← hU]; rfl
  have hheap : U.heap = T.heap := by rw [← hU]; rfl
  have hnU : U.methodNamed? yS = some t := by
    have : U.methodNamed? yS = T.methodNamed? yS := by simp only [State.methodNamed?, hvm]
    rw [this]; exact hn
  rcases hK (T.calling g ⟨cK, 1⟩ #[.ref a, .ref b]) #[.ref a, .ref b] rfl rfl ⟨cK, 1⟩ methk ck ⟨U, [], 0, 0⟩ (F0 ⟨cK, 1⟩ 1 #[.val (.ref a), .val (.ref b)] []) (.invokestatic 17) t #[.ref b] Y₀ rfl (by rw [hml]; rfl) (by rw [hbytes]; exact kr_zd0_1) (lv_room (st := []) (by simp)) hnU (hpre U hheap hvm) with ⟨v, B, Y₁, hpost, hsteps⟩ | ⟨q, B, -, hx, -⟩
  rotate_left
  · exact absurd hx (hnx _ _ _ _)
  obtain ⟨r, rfl⟩ := hres _ _ _ _ hpost
  obtain ⟨fs, hleave, -, hended, hWe, hsame⟩ := Y₁.leave (v := some (.int (kr_b r))) (fun h => by rw [hretk] at h; cases h) hlk
  obtain ⟨T', X', hW', -, ht⟩ := X.outOf hg hdg hended hWe hsame
  refine ⟨some (.int (kr_b r)), U, B, T', hheap, hvm, hpost, ?_, ?_, X', fun acts => ?_⟩
  · have h1 := congrArg State.heap ht
    exact h1.symm
  · have h1 := congrArg State.vm ht
    exact h1.symm
  rw [hin acts]
  show Steps p.tables e below _ (T'.setTop { g with pc := g.pc + len, stack := (some (Value.int (kr_b r))).toList ++ g.stack })
  rw [← ht]
  refine Steps.weaken (mid := [.java g]) ?_
  have hloc : entryFrame ⟨cK, 1⟩ #[.ref a, .ref b] ck.maxLocals = { method := ⟨cK, 1⟩, pc := 0, locals := #[.val (.ref a), .val (.ref b)], stack := [], locked := none } := by rw [hml]; rfl
  rw [hloc]
  have hs : U.topJava?.isSome := Y₀.here.top
  jvm_step Y₀.here [hexec, hbytes, kr_zd0_0, Value.isRef]
  jvm_step Y₀.here [hexec, hbytes, kr_zd0_1, invokestatic.wp_ready (e := e) (s := U) (m := t) (k := tk) (meth := methS) (args := [.ref b]) (rest := [])
    (f := { method := ⟨cK, 1⟩, pc := 1, locals := #[.val (.ref a), .val (.ref b)], stack := [.ref b], locked := none }) hs ⟨14, _, _, b9, own, tk, by rw [hvm]; exact hmem, by rw [hvm]; exact hclsR, by rw [hvm]; exact htk, by simp [hpoly]⟩ (by rw [hvm]; exact hready) (by rw [hvm, htc]; exact htk) (by rw [hvm]; exact hm) (hpoly _) hst (hinit tk (by rw [htc]; exact htk)) hpar.symm rfl]
  intro acts'
  rw [doInvoke_state]
  refine hsteps.trans ?_
  show Steps p.tables e (.java g :: below) (B.U.setTop { method := ⟨cK, 1⟩, pc := 4, locals := #[.val (.ref a), .val (.ref b)], stack := [.int (kr_b r)], locked := none }) _
  jvm_step Y₁.here [Y₁.here.top, hexec, hbytes, kr_zd0_4, Y₁.method', hretk, kr_narb r]
  intro acts''
  rw [hleave { method := ⟨cK, 1⟩, pc := 4, locals := #[.val (.ref a), .val (.ref b)], stack := [], locked := none } acts'' rfl rfl rfl]
  exact Steps.refl _
theorem kr_zd1_0 : decode kr_z1.1 0 = .ok (.aload_n 0, 1) := by decide +kernel
theorem kr_zd1_1 : decode kr_z1.1 1 = .ok (.getfield 15, 3) := by decide +kernel
theorem kr_zd1_4 : decode kr_z1.1 4 = .ok (.aload_n 1, 1) := by decide +kernel
theorem kr_zd1_5 : decode kr_z1.1 5 = .ok (.invokestatic 23, 3) := by decide +kernel
theorem kr_zd1_8 : decode kr_z1.1 8 = .ok (.ireturn, 1) := by decide +kernel
theorem kr_fw1 {p : Program} {l : Launch} {e : Env} {R : Room} {s : State} {m : MethodId} {args : Array Value} {below : List Frame} {meth : Method} {c : Code} {T : State} {locs : List Loc} {cells slots : Nat} (X : Stand p l e R s m args below meth c T locs cells slots) (hexec : p.tables.exec = Jvm.exec) {g : JFrame} (hg : g.method = m) (hsize : g.locals.size = c.maxLocals) {ig : Instr} {len : Nat} (hdg : decode c.code g.pc = .ok (ig, len))
    {k : Nat} (hok : kr_lok k kr_z1) (hf0 : kr_lf k 0 15) {d cK : ClassId} {dk : Class} (hd : T.vm.classes[d]? = some dk) (hname : dk.name = (kr_sy k).cls) (hmade : Lambda.isMade { classPath := fun _ => none } T.vm d (kr_shp k) cK = true)
    (hO : ∀ o ok, T.vm.findClass "java/lang/Object" = some o → T.vm.classes[o]? = some ok → ok.instanceTypes.size = 0) {a b : Nat} {v0 : Value} (hcell : T.heap[a]? = some ({ cls := cK, slots := #[v0], vm := .none } : Cell)) (hpk : T.plainMethod ⟨cK, 1⟩)
    {yS : MethodName} {mS : MethodId} {methS : Method} (hy : yS = ⟨(kr_shp k).implClass, (kr_shp k).implName, (kr_shp k).implDesc.toString⟩) (hyn : yS.cls ≠ "java/lang/invoke/MethodHandle" ∧ yS.cls ≠ "java/lang/invoke/VarHandle") (hn : T.methodNamed? yS = some mS) (hm : T.vm.method? mS = some methS) (hst : methS.isStatic = true) (hpar : methS.sig.parameters.length = 2) (hinit : ∀ kk, T.vm.classes[mS.cls]? = some kk → kk.init = .initialized)
    {R' : Room} {Pre : Pt → Array Value → Prop} {Post : Pt → Array Value → Option Value → Pt → Prop} {PostX : Pt → Array Value → Addr → Pt → Prop} (hK : ∀ (s' : State) (a' : Array Value), s'.vm = T.vm → s'.heap = T.heap → vx_Back l R' p e (.java g :: below) s' a' yS 3 8 Pre Post PostX) (hpre : ∀ U : State, U.heap = T.heap → U.vm = T.vm → Pre ⟨U, [], 0, 0⟩ #[v0, .ref b])
    (hres : ∀ A a' v B, Post A a' v B → ∃ r : Bool, v = some (.int (kr_b r))) (hnx : ∀ A a' q B, ¬ PostX A a' q B)
    (hframes : R'.frames + 1 ≤ R.frames) (hlocals : 2 * g.monitorRoom + (g.stack.map fun v => v.category).sum + (2 + 11) + R'.locals ≤ R.locals) (hcells : cells + R'.cells ≤ R.cells) (hslots : slots + R'.slots ≤ R.slots) :
    ∃ (v : Option Value) (U : State) (B : Pt) (T' : State), U.heap = T.heap ∧ U.vm = T.vm ∧ Post ⟨U, [], 0, 0⟩ #[v0, .ref b] v B ∧ T'.heap = B.U.heap ∧ T'.vm = B.U.vm ∧ Stand p l e R s m args below meth c T' (locs ++ B.locs) (cells + B.cells) (slots + B.slots) ∧
      ∀ acts, Steps p.tables e below (doInvoke e (T.setTop g) acts ⟨cK, 1⟩ #[.ref a, .ref b]).1 (T'.setTop { g with pc := g.pc + len, stack := v.toList ++ g.stack }) := by
  have hok' := hok
  obtain ⟨-, -, -, -, -, g6, -, g8, -⟩ := hok'
  obtain ⟨kc, tk, file, methk, ck, own, iface, t, found, hk, hkn, hfile, hpool, hmk, hck, hbytes, hml, hlk, hfl, hretk, hown, htk, hlook, hready, hclsR, hfld, -, -, -, -, -⟩ := kr_lmade hok hd hname hmade hO
  have htm : t = mS := kr_lnamed hn hyn (by rw [hy]; exact hown) htk rfl (by rw [hy]; exact hlook)
  subst htm
  have htc : t.cls = own := by
    have h1 := findClass_of_methodNamed hn
    rw [hy] at h1
    exact Option.some.inj (h1.symm.trans hown)
  obtain ⟨tk', htk', htn⟩ := className_of_methodNamed hn
  rw [htc] at htk'
  cases htk.symm.trans htk'
  have hpoly : ∀ y, signaturePolymorphic tk y = false := kr_nopoly htn hyn
  obtain ⟨f0, hf0r, hf0s, hf0t⟩ := hfld 0 15 hf0
  obtain ⟨b9, hmem⟩ := memberRef_ask' (e := e) (vm := T.vm) (d := cK) (index := 23) hk hfile (Or.inl (by rw [hpool]; exact g6)) (by rw [hpool]; exact g8)
  obtain ⟨Y₀, hin⟩ := X.into (mk := ⟨cK, 1⟩) hg hsize hdg #[.ref a, .ref b] (R' := R') hmk hck hlk hpk hframes (by rw [hml]; exact hlocals) hcells hslots
  generalize hU : (T.setTop g).pushFrame (.java (entryFrame ⟨cK, 1⟩ #[.ref a, .ref b] ck.maxLocals)) = U at Y₀ hin
  have hvm : U.vm = T.vm := by rw [← hU]; rfl
  have hheap : U.heap = T.heap := by rw [← hU]; rfl
  have hnU : U.methodNamed? yS = some t := by
    have : U.methodNamed? yS = T.methodNamed? yS := by simp only [State.methodNamed?, hvm]
    rw [this]; exact hn
  rcases hK (T.calling g ⟨cK, 1⟩ #[.ref a, .ref b]) #[.ref a, .ref b] rfl rfl ⟨cK, 1⟩ methk ck ⟨U, [], 0, 0⟩ (F0 ⟨cK, 1⟩ 5 #[.val (.ref a), .val (.ref b)] []) (.invokestatic 23) t #[v0, .ref b] Y₀ rfl (by rw [hml]; rfl) (by rw [hbytes]; exact kr_zd1_5) (lv_room (st := []) (by simp)) hnU (hpre U hheap hvm) with ⟨v, B, Y₁, hpost, hsteps⟩ | ⟨q, B, -, hx, -⟩
  rotate_left
  · exact absurd hx (hnx _ _ _ _)
  obtain ⟨r, rfl⟩ := hres _ _ _ _ hpost
  obtain ⟨fs, hleave, -, hended, hWe, hsame⟩ := Y₁.leave (v := some (.int (kr_b r))) (fun h => by rw [hretk] at h; cases h) hlk
  obtain ⟨T', X', hW', -, ht⟩ := X.outOf hg hdg hended hWe hsame
  refine ⟨some (.int (kr_b r)), U, B, T', hheap, hvm, hpost, ?_, ?_, X', fun acts => ?_⟩
  · have h1 := congrArg State.heap ht
    exact h1.symm
  · have h1 := congrArg State.vm ht
    exact h1.symm
  rw [hin acts]
  show Steps p.tables e below _ (T'.setTop { g with pc := g.pc + len, stack := (some (Value.int (kr_b r))).toList ++ g.stack })
  rw [← ht]
  refine Steps.weaken (mid := [.java g]) ?_
  have hloc : entryFrame ⟨cK, 1⟩ #[.ref a, .ref b] ck.maxLocals = { method := ⟨cK, 1⟩, pc := 0, locals := #[.val (.ref a), .val (.ref b)], stack := [], locked := none } := by rw [hml]; rfl
  rw [hloc]
  have hs : U.topJava?.isSome := Y₀.here.top
  jvm_step Y₀.here [hexec, hbytes, kr_zd1_0, Value.isRef]
  jvm_step Y₀.here [hexec, hbytes, kr_zd1_1, getfield.wp_ready (e := e) (s := U) (c := cK) (field := f0) (a := a) (rest := []) (cell := { cls := cK, slots := #[v0], vm := .none }) (v := v0)
    (f := { method := ⟨cK, 1⟩, pc := 1, locals := #[.val (.ref a), .val (.ref b)], stack := [.ref a], locked := none }) hs (by rw [hvm]; exact hf0r) hf0s rfl (by rw [hheap]; exact hcell) (fun z => by cases z) (by rw [hf0t]; rfl)]
  jvm_step Y₀.here [hexec, hbytes, kr_zd1_4, Value.isRef]
  jvm_step Y₀.here [hexec, hbytes, kr_zd1_5, invokestatic.wp_ready (e := e) (s := U) (m := t) (k := tk) (meth := methS) (args := [v0, .ref b]) (rest := [])
    (f := { method := ⟨cK, 1⟩, pc := 5, locals := #[.val (.ref a), .val (.ref b)], stack := [.ref b, v0], locked := none }) hs ⟨19, _, _, b9, own, tk, by rw [hvm]; exact hmem, by rw [hvm]; exact hclsR, by rw [hvm]; exact htk, by simp [hpoly]⟩ (by rw [hvm]; exact hready) (by rw [hvm, htc]; exact htk) (by rw [hvm]; exact hm) (hpoly _) hst (hinit tk (by rw [htc]; exact htk)) hpar.symm rfl]
  intro acts'
  rw [doInvoke_state]
  refine hsteps.trans ?_
  show Steps p.tables e (.java g :: below) (B.U.setTop { method := ⟨cK, 1⟩, pc := 8, locals := #[.val (.ref a), .val (.ref b)], stack := [.int (kr_b r)], locked := none }) _
  jvm_step Y₁.here [Y₁.here.top, hexec, hbytes, kr_zd1_8, Y₁.method', hretk, kr_narb r]
  intro acts''
  rw [hleave { method := ⟨cK, 1⟩, pc := 8, locals := #[.val (.ref a), .val (.ref b)], stack := [], locked := none } acts'' rfl rfl rfl]
  exact Steps.refl _
theorem kr_zd2_0 : decode kr_z2.1 0 = .ok (.aload_n 0, 1) := by decide +kernel
theorem kr_zd2_1 : decode kr_z2.1 1 = .ok (.getfield 17, 3) := by decide +kernel
theorem kr_zd2_4 : decode kr_z2.1 4 = .ok (.aload_n 0, 1) := by decide +kernel
theorem kr_zd2_5 : decode kr_z2.1 5 = .ok (.getfield 19, 3) := by decide +kernel
theorem kr_zd2_8 : decode kr_z2.1 8 = .ok (.aload_n 1, 1) := by decide +kernel
theorem kr_zd2_9 : decode kr_z2.1 9 = .ok (.invokestatic 27, 3) := by decide +kernel
theorem kr_zd2_12 : decode kr_z2.1 12 = .ok (.ireturn, 1) := by decide +kernel
theorem kr_fw2 {p : Program} {l : Launch} {e : Env} {R : Room} {s : State} {m : MethodId} {args : Array Value} {below : List Frame} {meth : Method} {c : Code} {T : State} {locs : List Loc} {cells slots : Nat} (X : Stand p l e R s m args below meth c T locs cells slots) (hexec : p.tables.exec = Jvm.exec) {g : JFrame} (hg : g.method = m) (hsize : g.locals.size = c.maxLocals) {ig : Instr} {len : Nat} (hdg : decode c.code g.pc = .ok (ig, len))
    {k : Nat} (hok : kr_lok k kr_z2) (hf0 : kr_lf k 0 17) (hf1 : kr_lf k 1 19) {d cK : ClassId} {dk : Class} (hd : T.vm.classes[d]? = some dk) (hname : dk.name = (kr_sy k).cls) (hmade : Lambda.isMade { classPath := fun _ => none } T.vm d (kr_shp k) cK = true)
    (hO : ∀ o ok, T.vm.findClass "java/lang/Object" = some o → T.vm.classes[o]? = some ok → ok.instanceTypes.size = 0) {a b : Nat} {v0 v1 : Value} (hcell : T.heap[a]? = some ({ cls := cK, slots := #[v0, v1], vm := .none } : Cell)) (hpk : T.plainMethod ⟨cK, 1⟩)
    {yS : MethodName} {mS : MethodId} {methS : Method} (hy : yS = ⟨(kr_shp k).implClass, (kr_shp k).implName, (kr_shp k).implDesc.toString⟩) (hyn : yS.cls ≠ "java/lang/invoke/MethodHandle" ∧ yS.cls ≠ "java/lang/invoke/VarHandle") (hn : T.methodNamed? yS = some mS) (hm : T.vm.method? mS = some methS) (hst : methS.isStatic = true) (hpar : methS.sig.parameters.length = 3) (hinit : ∀ kk, T.vm.classes[mS.cls]? = some kk → kk.init = .initialized)
    {R' : Room} {Pre : Pt → Array Value → Prop} {Post : Pt → Array Value → Option Value → Pt → Prop} {PostX : Pt → Array Value → Addr → Pt → Prop} (hK : ∀ (s' : State) (a' : Array Value), s'.vm = T.vm → s'.heap = T.heap → vx_Back l R' p e (.java g :: below) s' a' yS 3 8 Pre Post PostX) (hpre : ∀ U : State, U.heap = T.heap → U.vm = T.vm → Pre ⟨U, [], 0, 0⟩ #[v0, v1, .ref b])
    (hres : ∀ A a' v B, Post A a' v B → ∃ r : Bool, v = some (.int (kr_b r))) (hnx : ∀ A a' q B, ¬ PostX A a' q B)
    (hframes : R'.frames + 1 ≤ R.frames) (hlocals : 2 * g.monitorRoom + (g.stack.map fun v => v.category).sum + (2 + 11) + R'.locals ≤ R.locals) (hcells : cells + R'.cells ≤ R.cells) (hslots : slots + R'.slots ≤ R.slots) :
    ∃ (v : Option Value) (U : State) (B : Pt) (T' : State), U.heap = T.heap ∧ U.vm = T.vm ∧ Post ⟨U, [], 0, 0⟩ #[v0, v1, .ref b] v B ∧ T'.heap = B.U.heap ∧ T'.vm = B.U.vm ∧ Stand p l e R s m args below meth c T' (locs ++ B.locs) (cells + B.cells) (slots + B.slots) ∧
      ∀ acts, Steps p.tables e below (doInvoke e (T.setTop g) acts ⟨cK, 1⟩ #[.ref a, .ref b]).1 (T'.setTop { g with pc := g.pc + len, stack := v.toList ++ g.stack }) := by
  have hok' := hok
  obtain ⟨-, -, -, -, -, g6, -, g8, -⟩ := hok'
  obtain ⟨kc, tk, file, methk, ck, own, iface, t, found, hk, hkn, hfile, hpool, hmk, hck, hbytes, hml, hlk, hfl, hretk, hown, htk, hlook, hready, hclsR, hfld, -, -, -, -, -⟩ := kr_lmade hok hd hname hmade hO
  have htm : t = mS := kr_lnamed hn hyn (by rw [hy]; exact hown) htk rfl (by rw [hy]; exact hlook)
  subst htm
  have htc : t.cls = own := by
    have h1 := findClass_of_methodNamed hn
    rw [hy] at h1
    exact Option.some.inj (h1.symm.trans hown)
  obtain ⟨tk', htk', htn⟩ := className_of_methodNamed hn
  rw [htc] at htk'
  cases htk.symm.trans htk'
  have hpoly : ∀ y, signaturePolymorphic tk y = false := kr_nopoly htn hyn
  obtain ⟨f0, hf0r, hf0s, hf0t⟩ := hfld 0 17 hf0
  obtain ⟨f1, hf1r, hf1s, hf1t⟩ := hfld 1 19 hf1
  obtain ⟨b9, hmem⟩ := memberRef_ask' (e := e) (vm := T.vm) (d := cK) (index := 27) hk hfile (Or.inl (by rw [hpool]; exact g6)) (by rw [hpool]; exact g8)
  obtain ⟨Y₀, hin⟩ := X.into (mk := ⟨cK, 1⟩) hg hsize hdg #[.ref a, .ref b] (R' := R') hmk hck hlk hpk hframes (by rw [hml]; exact hlocals) hcells hslots
  generalize hU : (T.setTop g).pushFrame (.java (entryFrame ⟨cK, 1⟩ #[.ref a, .ref b] ck.maxLocals)) = U at Y₀ hin
  have hvm : U.vm = T.vm := by rw [← hU]; rfl
  have hheap : U.heap = T.heap := by rw [← hU]; rfl
  have hnU : U.methodNamed? yS = some t := by
    have : U.methodNamed? yS = T.methodNamed? yS := by simp only [State.methodNamed?, hvm]
    rw [this]; exact hn
  rcases hK (T.calling g ⟨cK, 1⟩ #[.ref a, .ref b]) #[.ref a, .ref b] rfl rfl ⟨cK, 1⟩ methk ck ⟨U, [], 0, 0⟩ (F0 ⟨cK, 1⟩ 9 #[.val (.ref a), .val (.ref b)] []) (.invokestatic 27) t #[v0, v1, .ref b] Y₀ rfl (by rw [hml]; rfl) (by rw [hbytes]; exact kr_zd2_9) (lv_room (st := []) (by simp)) hnU (hpre U hheap hvm) with ⟨v, B, Y₁, hpost, hsteps⟩ | ⟨q, B, -, hx, -⟩
  rotate_left
  · exact absurd hx (hnx _ _ _ _)
  obtain ⟨r, rfl⟩ := hres _ _ _ _ hpost
  obtain ⟨fs, hleave, -, hended, hWe, hsame⟩ := Y₁.leave (v := some (.int (kr_b r))) (fun h => by rw [hretk] at h; cases h) hlk
  obtain ⟨T', X', hW', -, ht⟩ := X.outOf hg hdg hended hWe hsame
  refine ⟨some (.int (kr_b r)), U, B, T', hheap, hvm, hpost, ?_, ?_, X', fun acts => ?_⟩
  · have h1 := congrArg State.heap ht
    exact h1.symm
  · have h1 := congrArg State.vm ht
    exact h1.symm
  rw [hin acts]
  show Steps p.tables e below _ (T'.setTop { g with pc := g.pc + len, stack := (some (Value.int (kr_b r))).toList ++ g.stack })
  rw [← ht]
  refine Steps.weaken (mid := [.java g]) ?_
  have hloc : entryFrame ⟨cK, 1⟩ #[.ref a, .ref b] ck.maxLocals = { method := ⟨cK, 1⟩, pc := 0, locals := #[.val (.ref a), .val (.ref b)], stack := [], locked := none } := by rw [hml]; rfl
  rw [hloc]
  have hs : U.topJava?.isSome := Y₀.here.top
  jvm_step Y₀.here [hexec, hbytes, kr_zd2_0, Value.isRef]
  jvm_step Y₀.here [hexec, hbytes, kr_zd2_1, getfield.wp_ready (e := e) (s := U) (c := cK) (field := f0) (a := a) (rest := []) (cell := { cls := cK, slots := #[v0, v1], vm := .none }) (v := v0)
    (f := { method := ⟨cK, 1⟩, pc := 1, locals := #[.val (.ref a), .val (.ref b)], stack := [.ref a], locked := none }) hs (by rw [hvm]; exact hf0r) hf0s rfl (by rw [hheap]; exact hcell) (fun z => by cases z) (by rw [hf0t]; rfl)]
  jvm_step Y₀.here [hexec, hbytes, kr_zd2_4, Value.isRef]
  jvm_step Y₀.here [hexec, hbytes, kr_zd2_5, getfield.wp_ready (e := e) (s := U) (c := cK) (field := f1) (a := a) (rest := [v0]) (cell := { cls := cK, slots := #[v0, v1], vm := .none }) (v := v1)
    (f := { method := ⟨cK, 1⟩, pc := 5, locals := #[.val (.ref a), .val (.ref b)], stack := [.ref a, v0], locked := none }) hs (by rw [hvm]; exact hf1r) hf1s rfl (by rw [hheap]; exact hcell) (fun z => by cases z) (by rw [hf1t]; rfl)]
  jvm_step Y₀.here [hexec, hbytes, kr_zd2_8, Value.isRef]
  jvm_step Y₀.here [hexec, hbytes, kr_zd2_9, invokestatic.wp_ready (e := e) (s := U) (m := t) (k := tk) (meth := methS) (args := [v0, v1, .ref b]) (rest := [])
    (f := { method := ⟨cK, 1⟩, pc := 9, locals := #[.val (.ref a), .val (.ref b)], stack := [.ref b, v1, v0], locked := none }) hs ⟨23, _, _, b9, own, tk, by rw [hvm]; exact hmem, by rw [hvm]; exact hclsR, by rw [hvm]; exact htk, by simp [hpoly]⟩ (by rw [hvm]; exact hready) (by rw [hvm, htc]; exact htk) (by rw [hvm]; exact hm) (hpoly _) hst (hinit tk (by rw [htc]; exact htk)) hpar.symm rfl]
  intro acts'
  rw [doInvoke_state]
  refine hsteps.trans ?_
  show Steps p.tables e (.java g :: below) (B.U.setTop { method := ⟨cK, 1⟩, pc := 12, locals := #[.val (.ref a), .val (.ref b)], stack := [.int (kr_b r)], locked := none }) _
  jvm_step Y₁.here [Y₁.here.top, hexec, hbytes, kr_zd2_12, Y₁.method', hretk, kr_narb r]
  intro acts''
  rw [hleave { method := ⟨cK, 1⟩, pc := 12, locals := #[.val (.ref a), .val (.ref b)], stack := [], locked := none } acts'' rfl rfl rfl]
  exact Steps.refl _
