/-! LAMBDAS: the rows: invokedynamic, invokeinterface on what it made -/
set_option maxRecDepth 100000
section
variable {G : kr_G} {x : kr_X} {y : MethodName} {cc : ByteArray} {nL : Nat} {ret : Option FieldType} {rm : Room} {hh : List (Nat × Nat × Nat × Nat)} {Q : State → Prop} {P P' : Heap → Prop} {cs ss pc : Nat} {lv lv' : List (Option Value)} {st : List Value}
/-- a site's class, from the tables of the run's beginning on -/
theorem kf_lam {l : Launch} (hF : kr_F G l) {k : Nat} (hk : k < 8) {U : State} (hW : (kg_s G).WarmedH U.vm) :
    ∃ (d : ClassId) (dk : Class) (i : ClassId), U.vm.classes[d]? = some dk ∧ dk.name = (kr_sy k).cls ∧ Lambda.isMade { classPath := fun _ => none } U.vm d (kr_shp k) (kg_L G k) = true ∧
      U.vm.findClass (kr_shp k).iface = some i ∧ U.vm.assignable (kg_L G k) i = true ∧ ((kg_L G k :: U.vm.superclasses (kg_L G k)).any fun z => (declaredIn U.vm (kr_shp k).name (kr_shp k).sam.toString z).any fun (_, y) => y.isPrivate || y.isStatic) = false := by
  obtain ⟨one, h⟩ := kf_site hF hk
  obtain ⟨m0, kc, cf, i0, p0, l0, hm0, hk0, hcf, hsh, hin, hfind, hmade, hcall, hl⟩ := State.lambdaAt?_spec h
  obtain ⟨kn, hkn, hnn⟩ := className_of_methodNamed hm0
  cases hk0.symm.trans hkn
  obtain ⟨kc', hk', he⟩ := hW.alike.2.2 _ _ hk0
  have hcall' : U.lambdaCallable (kr_shp k) (kg_L G k) = true := by
    have hA := hW.alike
    simp only [State.lambdaCallable, hA.findClass, hA.assignable, hA.superclasses, hA.declaredIn] at hcall ⊢
    exact hcall
  obtain ⟨i, a1, a2, a3⟩ := State.lambdaCallable_spec hcall'
  exact ⟨m0.cls, kc', i, hk', by rw [he]; exact hnn, Lambda.isMade_warmer hW hmade, a1, a2, a3⟩
theorem kf_obj0 (X : kr_C G x y cc nL ret rm hh) {U : State} (hW : (kx_s x).WarmedH U.vm) : ∀ o ok, U.vm.findClass "java/lang/Object" = some o → U.vm.classes[o]? = some ok → ok.instanceTypes.size = 0 := by
  intro o ok h1 h2
  have h : (Cond.instantiable "java/lang/Object" 0).before #[] U = true := word_at hW (good_of_word rfl) (X.hts _ q1935)
  obtain ⟨c, k, g1, g2, -, -, -, g6⟩ := Cond.instantiable_spec h
  cases h1.symm.trans g1
  cases h2.symm.trans g2
  exact g6
theorem kr_C.iface (X : kr_C G x y cc nL ret rm hh) {w : MethodName} {a b c d : String} (hw : Cond.interfaceMethod a b c d ∈ lw_tbl) : ∃ i ki, (kx_s x).vm.findClass a = some i ∧ (kx_s x).vm.classes[i]? = some ki ∧ ki.isInterface = true := by
  obtain ⟨⟨b0, h1, -⟩, -⟩ := X.F
  obtain ⟨i, ki, m, g1, g2, g3, -, -⟩ := Cond.interfaceMethod_spec (h1 _ hw)
  obtain ⟨ki', hk', he⟩ := X.warm.alike.2.2 _ _ g2
  exact ⟨i, ki', by rw [X.warm.alike.findClass]; exact g1, hk', by rw [he]; exact g3⟩
theorem kr_oldat (X : kr_C G x y cc nL ret rm hh) {H : Heap} {locs : List Loc} {a : Nat} {cell : Cell} (hS : va_S (kr_old G) (kx_s x).heap H locs) (h : (kg_s G).heap[a]? = some cell) : H[a]? = some cell := by
  have h1 : a < (kg_s G).heap.size := (Array.getElem?_eq_some_iff.mp h).1
  rw [hS.2.1 a (Nat.lt_of_lt_of_le h1 X.base.1) (fun z => absurd z (Nat.not_le.mpr h1)), X.base.2 a h1]
  exact h
theorem kr_none {α : Type} {z : Option α} {sh : α} (h : z = some sh) (h2 : z = none) : False := by rw [h] at h2; cases h2
theorem kr_shape {cf : ClassFile} {index : Nat} {sh : Lambda.Shape} (h : Lambda.shapeOf? cf index = some sh) : ∃ b nt name desc sig, cf.constantPool[index]? = some (.invokeDynamic b nt) ∧ cf.constantPool.nameAndType? nt = some (name, desc) ∧ parseMethodDescriptor desc = some sig ∧ sig.parameters = sh.captured := by
  unfold Lambda.shapeOf? at h
  generalize hE : cf.constantPool[index]? = E at h
  rcases E with _ | E
  · exact (kr_none h rfl).elim
  cases E
  case invokeDynamic b nt =>
    refine ⟨b, nt, ?_⟩
    obtain ⟨entries, -, h⟩ := Option.bind_eq_some_iff.mp h
    obtain ⟨bm, -, h⟩ := Option.bind_eq_some_iff.mp h
    generalize cf.constantPool[bm.bootstrapMethodRef]? = E2 at h
    rcases E2 with _ | E2
    · exact (kr_none h rfl).elim
    cases E2
    case methodHandle n r =>
      rcases n with _ | _ | _ | _ | _ | _ | _ | n
      case succ.succ.succ.succ.succ.succ.zero =>
        obtain ⟨u1, -, h⟩ := Option.bind_eq_some_iff.mp h
        generalize bm.bootstrapArguments = A at h
        obtain ⟨L⟩ := A
        rcases L with _ | ⟨a0, _ | ⟨a1, _ | ⟨a2, _ | ⟨a3, L⟩⟩⟩⟩
        · exact (kr_none h rfl).elim
        · exact (kr_none h rfl).elim
        · exact (kr_none h rfl).elim
        · have h : (match cf.constantPool[a0]? with
            | some (CpInfo.methodType d0) =>
              match cf.constantPool[a1]? with
              | some (CpInfo.methodHandle kind r1) =>
                match cf.constantPool[a2]? with
                | some (CpInfo.methodType d2) => (cf.constantPool.nameAndType? nt).bind fun nd => (parseMethodDescriptor nd.2).bind fun site =>
                  match site.returnType with
                  | some (FieldType.object iface) => (Lambda.memberOf? cf.constantPool r1).bind fun q => (cf.constantPool.string? d0).bind fun x0 => (parseMethodDescriptor x0).bind fun x1 => (parseMethodDescriptor q.2.2.1).bind fun x2 => (cf.constantPool.string? d2).bind fun x3 => (parseMethodDescriptor x3).bind fun x4 => some ({ iface := iface, name := nd.1, sam := x1, captured := site.parameters, kind := kind, implClass := q.1, implName := q.2.1, implDesc := x2, implItf := q.2.2.2, inst := x4 } : Lambda.Shape)
                  | _ => none
                | _ => none
              | _ => none
            | _ => none) = some sh := h
          split at h
          · split at h
            · split at h
              · simp only [Option.bind_eq_some_iff] at h
                obtain ⟨nd, hnd, site, hsite, h⟩ := h
                split at h
                · simp only [Option.bind_eq_some_iff, Option.some.injEq] at h
                  obtain ⟨q, -, x0, -, x1, -, x2, -, x3, -, x4, -, rfl⟩ := h
                  exact ⟨nd.1, nd.2, site, rfl, hnd, hsite, rfl⟩
                · cases h
              · cases h
            · cases h
          · cases h
        · exact (kr_none h rfl).elim
      all_goals exact (kr_none h rfl).elim
    all_goals exact (kr_none h rfl).elim
  all_goals exact (kr_none h rfl).elim
/-- a site's entry among its class' call sites -/
theorem kf_entry (X : kr_C G x y cc nL ret rm hh) {k : Nat} (hk : k < 8) (hy : y = kr_sy k) :
    ∃ (kc : Class) (cf : ClassFile) (i0 p0 : Nat) (l0 : Linked) (one : Option Addr), (kx_s x).vm.classes[(kx_m x).cls]? = some kc ∧ kc.cf = some cf ∧ Lambda.shapeOf? cf (kr_six k) = some (kr_shp k) ∧ (kc.callSites.find? fun z => z.1 == (kx_m x).idx && z.2.1 == kr_spc k) = some (i0, p0, l0) ∧
      ((∃ a cell, l0 = .constant a ∧ one = some a ∧ (kr_shp k).captured = [] ∧ (kg_s G).heap[a]? = some cell ∧ cell.cls = kg_L G k ∧ cell.vm = .none ∧ cell.slots = #[]) ∨ (l0 = .makes (kg_L G k) ∧ one = none ∧ (kr_shp k).captured ≠ [])) := by
  obtain ⟨one, h⟩ := kf_site X.F hk
  obtain ⟨m0, kc, cf, i0, p0, l0, hm0, hk0, hcf, hsh, hin, hfind, hmade, hcall, hl⟩ := State.lambdaAt?_spec h
  have hn := State.methodNamed?_setVm (s := kg_s G) X.warm.alike (kr_sy k)
  rw [hm0] at hn
  have hn2 : (kx_s x).methodNamed? (kr_sy k) = some m0 := hn
  have hmm : kx_m x = m0 := by
    have := X.named
    rw [hy] at this
    exact Option.some.inj (this.symm.trans hn2)
  obtain ⟨kc', hk', he⟩ := X.warm.alike.2.2 _ _ hk0
  exact ⟨kc', cf, i0, p0, l0, one, by rw [hmm]; exact hk', by rw [he]; exact hcf, hsh, by rw [he, hmm]; exact hfind, hl⟩
/-- invokedynamic that catches nothing: the one object -/
theorem kj_indy0 (X : kr_C G x y cc nL ret rm hh) {k : Nat} (hk : k < 8) (hy : y = kr_sy k) (hpc : pc = kr_spc k) (hcap : (kr_shp k).captured = []) {index : Nat} (hdg : decode cc pc = .ok (.invokedynamic index, 5)) (hlo : (st.map fun v => v.category).sum ≤ 8 ∧ 3080 ≤ rm.locals)
    (kk : ∀ (a : Nat) (cell : Cell), (kg_s G).heap[a]? = some cell → cell.cls = kg_L G k → cell.vm = .none → kr_J G x nL Q P cs ss (pc + 5) lv (.ref a :: st)) : kr_J G x nL Q P cs ss pc lv st := fun H locs ls hP hS hl => by
  have e := X.room
  obtain ⟨kc, cf, i0, p0, l0, one, h1, h2, h3, h4, h5⟩ := kf_entry X hk hy
  rcases h5 with ⟨a, cell, rfl, -, -, hcell, hc1, hc2, hc3⟩ | ⟨-, -, h9⟩
  · intro T hT X0
    obtain ⟨t2, a1, b1⟩ := kk a cell hcell hc1 hc2 H locs ls hP hS hl T hT X0
    refine ⟨t2, X0.lambdaConstant X.1 (g := F0 (kx_m x) pc ls st) rfl (by show ls.size = _; rw [hl.1]; exact X.2.2.1.symm) (by rw [X.2.1]; exact hdg) h1 (by show (kc.callSites.find? fun z => z.1 == (kx_m x).idx && z.2.1 == pc) = _; rw [hpc]; exact h4) ?_ a1, b1⟩
    have h3 := lv_room (m := kx_m x) (pc := pc) (ls := ls) (rest := st) hlo.1
    have h4 : 2 * (F0 (kx_m x) pc ls st).monitorRoom + (st.map fun v => v.category).sum ≤ 8 := h3
    show 2 * (F0 (kx_m x) pc ls st).monitorRoom + (st.map fun v => v.category).sum + x.2.2.1.platform.lambdaLinkWords ≤ (kx_R x).locals
    rw [e, X0.admits.platform]
    show _ + 3072 ≤ _
    omega
  · exact absurd hcap h9
/-- invokedynamic that catches: a new object -/
theorem kj_indy (X : kr_C G x y cc nL ret rm hh) {k : Nat} (hk : k < 8) (hy : y = kr_sy k) (hpc : pc = kr_spc k) {z : kr_lz} (hok : kr_lok k z) (hcap : (kr_shp k).captured ≠ []) {index : Nat} {vals rest : List Value} {Pn : Nat → Heap → Prop} (hix : index = kr_six k) (hdg : decode cc pc = .ok (.invokedynamic index, 5)) (hst : st = vals.reverse ++ rest) (hlen : vals.length = (kr_shp k).captured.length)
    (hfit : ((kr_shp k).captured.zip vals).all (fun q => decide (narrow q.1 q.2 = q.2) && fits q.1 q.2) = true) (hlo : (st.map fun v => v.category).sum ≤ 8 ∧ 3080 ≤ rm.locals) (hroom : cs + 1 ≤ rm.cells ∧ ss + vals.length ≤ rm.slots)
    (hput : ∀ H H1, P H → kr_old G H.size → kr_is G H.size (.inr (k, vals)) H1 → kr_new H H1 → Pn H.size H1)
    (kk : ∀ q, kr_J G x nL Q (Pn q) (cs + 1) (ss + vals.length) (pc + 5) lv (.ref q :: rest)) : kr_J G x nL Q P cs ss pc lv st := fun H locs ls hP hS hl => by
  have e := X.room
  obtain ⟨kc, cf, i0, p0, l0, one, h1, h2, h3, h4, h5⟩ := kf_entry X hk hy
  rcases h5 with ⟨-, -, -, -, h9, -⟩ | ⟨rfl, -, -⟩
  · exact absurd h9 hcap
  intro T hT X0
  obtain ⟨d, dk, i, hd, hdn, hmade, -, -, -⟩ := kf_lam X.F hk (U := kx_s x) X.warm
  obtain ⟨kK, tk, file, methk, ck, own, iface, t, found, hkK, hkn, -, -, -, -, -, -, -, -, -, -, -, -, -, -, -, hty, hord, -, -, -⟩ := kr_lmade hok hd hdn hmade (kf_obj0 X (State.WarmedH.refl _))
  obtain ⟨bsm, nt, name, desc, sig, hc, hnt, hsig, hpar⟩ := kr_shape h3
  have hz : ((kK.instanceTypes.toList.zip vals).map fun (t, v) => narrow t v) = vals := by
    rw [hty]
    refine List.ext_getElem (by simp [hlen]) fun j j1 j2 => ?_
    simp only [List.getElem_map, List.getElem_zip]
    have := List.all_eq_true.mp hfit ((kr_shp k).captured[j]'(by rw [← hlen]; exact j2), vals[j]) (List.mem_iff_getElem.mpr ⟨j, by simp [hlen]; exact (by rw [← hlen]; exact j2), by simp⟩)
    simp only [Bool.and_eq_true, decide_eq_true_eq] at this
    exact this.1
  obtain ⟨X₁, st1⟩ := X0.lambdaMakes X.1 (g := F0 (kx_m x) pc ls st) rfl (by show ls.size = _; rw [hl.1]; exact X.2.2.1.symm) (by rw [X.2.1]; exact hdg) (vals := vals) (rest := rest) h1 (by show (kc.callSites.find? fun z => z.1 == (kx_m x).idx && z.2.1 == pc) = _; rw [hpc]; exact h4) h2 (by rw [hix]; exact hc) hnt (parseLong_of_parse hsig) (by rw [hpar]; exact hlen) hst hkK
    (by
      have h3 := lv_room (m := kx_m x) (pc := pc) (ls := ls) (rest := st) hlo.1
      have h4 : 2 * (F0 (kx_m x) pc ls st).monitorRoom + (st.map fun v => v.category).sum ≤ 8 := h3
      show 2 * (F0 (kx_m x) pc ls st).monitorRoom + (st.map fun v => v.category).sum + x.2.2.1.platform.lambdaLinkWords ≤ (kx_R x).locals
      rw [e, X0.admits.platform]
      show _ + 3072 ≤ _
      omega) (by show cs + 1 ≤ (kx_R x).cells; rw [e]; exact hroom.1) (by rw [hz]; show ss + vals.length ≤ (kx_R x).slots; rw [e]; exact hroom.2) (fun j v hv => by
      rw [hz] at hv
      rw [List.getElem?_toArray] at hv
      have hj : j < vals.length := (List.getElem?_eq_some_iff.mp hv).1
      have hvj : vals[j] = v := (List.getElem?_eq_some_iff.mp hv).2
      have hcj : (kr_shp k).captured[j]? = some ((kr_shp k).captured[j]'(by rw [← hlen]; exact hj)) := List.getElem?_eq_getElem _
      have htj : kK.instanceTypes[j]? = some ((kr_shp k).captured[j]'(by rw [← hlen]; exact hj)) := by
        rw [← Array.getElem?_toList, hty]
        exact hcj
      have := List.all_eq_true.mp hfit ((kr_shp k).captured[j]'(by rw [← hlen]; exact hj), vals[j]) (List.mem_iff_getElem.mpr ⟨j, by simp [hlen]; exact (by rw [← hlen]; exact hj), by simp⟩)
      simp only [Bool.and_eq_true, decide_eq_true_eq] at this
      rw [hvj] at this
      simp [State.fitsSlot, State.slotType?, hkK, hord, htj, this.2])
  rw [hz] at X₁ st1
  have hn : kr_new H (T.pushCell { cls := kg_L G k, slots := vals.toArray, vm := .none }).heap := by
    rw [← hT]
    exact ⟨by simp [State.pushCell], fun q hq => State.heap_pushCell_of_lt _ _ hq⟩
  have hat : kr_is G H.size (.inr (k, vals)) (T.pushCell { cls := kg_L G k, slots := vals.toArray, vm := .none }).heap := by
    rw [← hT]
    exact State.heap_pushCell_size _ _
  obtain ⟨t2, a1, b1⟩ := kk H.size _ locs ls (hput H _ hP (Nat.le_trans X.base.1 hS.1) hat hn) (kr_push hS hn) hl _ rfl (by simpa using X₁)
  refine ⟨t2, st1 t2 ?_, b1⟩
  rw [hT]
  exact a1
theorem kj_lam0 (X : kr_C G x y cc nL ret rm hh) {k : Nat} (hk : k < 8) (hok : kr_lok k kr_z0)  (hpn : plainName ((kr_sy k).cls ++ "$$Lambda") = true) {w yS : MethodName} {bytes : ByteArray} {maxL F L mc ms index count a b : Nat}  {rest : List Value} {Po : Option Value → Heap → Prop}
    (hlink : Cond.methodLink y.cls index w ∈ lw_all) (h1 : Cond.declares w ∈ lw_tbl) (h2 : Cond.interfaceMethod w.cls w.cls w.name w.desc ∈ lw_tbl) (hw : w = ⟨(kr_shp k).iface, (kr_shp k).name, (kr_shp k).sam.toString⟩) (hwd : w.cls ≠ "java/lang/invoke/MethodHandle" ∧ w.cls ≠ "java/lang/invoke/VarHandle" ∧ (parseMethodDescriptor w.desc).map (fun d => d.parameters.length) = some 1)
    (hyS : yS = ⟨(kr_shp k).implClass, (kr_shp k).implName, (kr_shp k).implDesc.toString⟩) (hyd : yS.cls ≠ "java/lang/invoke/MethodHandle" ∧ yS.cls ≠ "java/lang/invoke/VarHandle" ∧ (parseMethodDescriptor yS.desc).map (fun d => d.parameters.length) = some 1) (hstat : Cond.static yS ∈ lw_all) (hini : Cond.initialized yS.cls ∈ lw_all) (hcode : Cond.code yS bytes maxL (some .boolean) ∈ lw_all)
    (hT : kr_T G (kx_l x) yS (ws_ yS bytes maxL (some .boolean)) F L [.ref b] P mc ms Po kr_no) (hres : ∀ v H, Po v H → ∃ r : Bool, v = some (.int (kr_b r)))
    (hdg : decode cc pc = .ok (.invokeinterface index count, 5)) {cell : Cell} (ha0 : (kg_s G).heap[a]? = some cell) (ha1 : cell.cls = kg_L G k) (ha2 : cell.vm = .none) (hst : st = .ref b :: .ref a :: rest) (hlow : (rest.map fun v => v.category).sum ≤ 8) (hR : F + 2 ≤ rm.frames ∧ 8 + 13 + (8 + (maxL + 11) + L) ≤ rm.locals) (hroom : cs + mc ≤ rm.cells ∧ ss + ms ≤ rm.slots)
    (kk : ∀ v, kr_J G x nL Q (Po v) (cs + mc) (ss + ms) (pc + 5) lv (v.toList ++ rest)) : kr_J G x nL Q P cs ss pc lv st := by
  subst hst
  have e := X.room
  refine kj_run5 (Px := kr_no) (av := #[.ref b]) (fun H locs ls hPH hS hl => ?_) (fun E => kjx_no) kk
  intro T hT0 X0
  obtain ⟨r0, r, hn, hrm, hsta, hrsig⟩ := Cond.declares_spec (X.decl h1)
  obtain ⟨i9, ki, hfi, hki, hii⟩ := X.iface (w := w) h2
  have hri : r0.cls = i9 := Option.some.inj ((findClass_of_methodNamed hn).symm.trans hfi)
  obtain ⟨d, dk, i, hd, hdn, hmade, hi, hasg, hway⟩ := kf_lam X.F hk (U := kx_s x) X.warm
  obtain ⟨kc, tk, file, methk, ck, own, iface, t, found, hkc, hkn, -, -, hmk, hck, -, hml, hlk, hfl, -, -, -, -, -, -, -, -, -, hif, hfd, hsel⟩ := kr_lmade hok hd hdn hmade (kf_obj0 X (State.WarmedH.refl _))
  have hwi : w.cls = (kr_shp k).iface := by rw [hw]
  have hii9 : i = i9 := by
    rw [hwi] at hfi
    exact Option.some.inj (hi.symm.trans hfi)
  subst hii9
  cases hi.symm.trans hif
  have hfr : found = r0 := kr_lnamed hn ⟨hwd.1, hwd.2.1⟩ hfi hki hii (by rw [hw]; exact hfd)
  subst hfr
  obtain ⟨nm1, nm2⟩ := name_of_methodNamed hn hrm
  have hcellH : T.heap[a]? = some cell := by rw [hT0]; exact kr_oldat X hS ha0
  obtain ⟨vm', X₁, hstep⟩ := X0.invokeinterface X.1 (own := y.cls) X.2.2.2.1 (X.hts _ hlink) hn hrm hsta (by rw [hri]; exact hki) hii ⟨hwd.1, hwd.2.1⟩ hcellH (fun c h => by rw [ha2] at h; cases h) (by rw [ha1]; exact hkc) (by rw [ha1]; rw [hri]; exact hasg) (by rw [ha1]; rw [Launch.admits_selectMethod X0.admits]; exact hsel) hmk (by rw [ha1]; rw [nm1, nm2, hw]; exact hway) (by rw [hfl]; decide) (by simp [Method.isAbstract, hfl, hasFlag, Acc.abstract])
    (g := F0 (kx_m x) pc ls (.ref b :: .ref a :: rest)) rfl (argsL := [.ref b]) (rest := rest) (by
      have h3 := hwd.2.2
      rw [hrsig] at h3
      exact (Option.some.inj h3).symm) rfl (by rw [X.2.1]; exact hdg)
  have hW1 : (kx_s x).WarmedH (T.setVm vm').vm := X₁.warmed
  obtain ⟨d1, dk1, i1, hd1, hdn1, hmade1, -, -, -⟩ := kf_lam X.F hk (U := T.setVm vm') (State.WarmedH.trans X.warm hW1)
  have wc : (Cond.code yS bytes maxL (some .boolean)).before #[] (T.setVm vm') = true := word_at hW1 (lw_self _ hcode).2 (X.hts _ hcode)
  have wi : (Cond.initialized yS.cls).before #[] (T.setVm vm') = true := word_at hW1 (lw_self _ hini).2 (X.hts _ hini)
  have wst : (Cond.static yS).before #[] (T.setVm vm') = true := word_at hW1 (lw_self _ hstat).2 (X.hts _ hstat)
  obtain ⟨mS, hnS⟩ := Cond.code_named wc
  obtain ⟨methS, cS, hmS, -, -, -, -, -, -, hsigS⟩ := Cond.code_spec hnS wc
  obtain ⟨kc1, -, -, -, -, -, -, -, -, hkc1, hkn1, -⟩ := kr_lmade hok hd1 hdn1 hmade1 (kf_obj0 X hW1)
  obtain ⟨v, U, B, T', hU1, hU2, hpost, hT1, hT2, X', hsteps⟩ := kr_fw0 X₁ X.1 (g := F0 (kx_m x) pc ls rest) rfl (by show ls.size = _; rw [hl.1]; exact X.2.2.1.symm) (by rw [X.2.1]; exact hdg) hok  hd1 hdn1 hmade1 (kf_obj0 X hW1) 
    (State.plainMethod.of_name (fun k' hk' => by cases hkc1.symm.trans hk'; rw [hkn1]; exact hpn)) hyS ⟨hyd.1, hyd.2.1⟩ hnS hmS (Cond.static_spec hnS hmS wst) (by
      have h3 := hyd.2.2
      rw [hsigS] at h3
      exact Option.some.inj h3) (fun kk hkk => Cond.initialized_spec (findClass_of_methodNamed hnS) hkk wi)
    (R' := { frames := F + 1, cells := mc, slots := ms, locals := 8 + (maxL + 11) + L }) (Pre := PreOf { frames := F + 1, cells := mc, slots := ms, locals := 8 + (maxL + 11) + L } mc ms (kr_Pc G [.ref b] P)) (Post := PostOf (kr_Qc G Po) mc ms (kr_old G)) (PostX := vx_Post (kr_XC G kr_no) mc ms (kr_old G))
    (fun s' a' e1 e2 => by
      have hW2 : (kx_s x).WarmedH s'.vm := by rw [e1]; exact hW1
      exact vx_back (bytes := bytes) (maxL := maxL) (ret := some .boolean) hT kr_blind rfl rfl (Nat.le_refl _) (Nat.le_refl _) (fun w9 hw9 a9 U9 hW9 => word_at (State.WarmedH.trans hW2 hW9) (lw_meth hcode w9 hw9).2 (X.hts _ (lw_meth hcode w9 hw9).1)) List.mem_cons_self (fun a9 U9 hW9 => word_at (State.WarmedH.trans hW2 hW9) (lw_self _ hini).2 (X.hts _ hini)))
    (fun U hU hUv => ⟨by show 0 + mc ≤ mc; omega, by show 0 + ms ≤ ms; omega, (kr_preS X hPH hS).2 U (hU.trans hT0) (by rw [hUv]; exact hW1)⟩)
    (fun A a' v B hp => by
      obtain ⟨g9, mk9, t9, L9, -, -, ⟨⟨v9, hv9, hp9⟩, -⟩, -⟩ := hp
      cases hv9
      exact hres _ _ hp9)
    (fun A a' q B hx => by
      obtain ⟨g9, mk9, t9, L9, E9, ce9, -, -, hx9, -⟩ := hx
      exact hx9.1)
    (by show F + 1 + 1 ≤ (kx_R x).frames; rw [e]; exact hR.1) (by
      have h3 := lv_room (m := kx_m x) (pc := pc) (ls := ls) (rest := rest) hlow
      have h4 : 2 * (F0 (kx_m x) pc ls rest).monitorRoom + (rest.map fun v => v.category).sum ≤ 8 := h3
      show 2 * (F0 (kx_m x) pc ls rest).monitorRoom + (rest.map fun v => v.category).sum + (2 + 11) + (8 + (maxL + 11) + L) ≤ (kx_R x).locals
      rw [e]
      omega) (by show cs + mc ≤ (kx_R x).cells; rw [e]; exact hroom.1) (by show ss + ms ≤ (kx_R x).slots; rw [e]; exact hroom.2)
  obtain ⟨UB, LB, cB, sB⟩ := B
  obtain ⟨g9, mk9, t9, L9, e1, e2, hq, e3, hL9, e4, e5⟩ := hpost
  dsimp only [Pt.U, Pt.locs, Pt.cells, Pt.slots] at e1 e2 hq e3 e4 e5 X' hT1 hT2 hsteps
  rw [List.nil_append] at e3
  rw [Nat.zero_add] at e4 e5
  subst e3; subst e4; subst e5
  refine Or.inl ⟨v, U.calling g9 mk9 #[.ref b], t9, T', LB, hU1.trans hT0, X', hL9, hT1.trans e1, hT2.trans e2, hq, fun target htg => hstep target fun acts => ?_⟩
  exact (hsteps acts).trans htg

theorem kj_lam1 (X : kr_C G x y cc nL ret rm hh) {k : Nat} (hk : k < 8) (hok : kr_lok k kr_z1) (hf0 : kr_lf k 0 15) (hpn : plainName ((kr_sy k).cls ++ "$$Lambda") = true) {w yS : MethodName} {bytes : ByteArray} {maxL F L mc ms index count a b : Nat} {v0 : Value} {rest : List Value} {Po : Option Value → Heap → Prop}
    (hlink : Cond.methodLink y.cls index w ∈ lw_all) (h1 : Cond.declares w ∈ lw_tbl) (h2 : Cond.interfaceMethod w.cls w.cls w.name w.desc ∈ lw_tbl) (hw : w = ⟨(kr_shp k).iface, (kr_shp k).name, (kr_shp k).sam.toString⟩) (hwd : w.cls ≠ "java/lang/invoke/MethodHandle" ∧ w.cls ≠ "java/lang/invoke/VarHandle" ∧ (parseMethodDescriptor w.desc).map (fun d => d.parameters.length) = some 1)
    (hyS : yS = ⟨(kr_shp k).implClass, (kr_shp k).implName, (kr_shp k).implDesc.toString⟩) (hyd : yS.cls ≠ "java/lang/invoke/MethodHandle" ∧ yS.cls ≠ "java/lang/invoke/VarHandle" ∧ (parseMethodDescriptor yS.desc).map (fun d => d.parameters.length) = some 2) (hstat : Cond.static yS ∈ lw_all) (hini : Cond.initialized yS.cls ∈ lw_all) (hcode : Cond.code yS bytes maxL (some .boolean) ∈ lw_all)
    (hT : kr_T G (kx_l x) yS (ws_ yS bytes maxL (some .boolean)) F L [v0, .ref b] P mc ms Po kr_no) (hres : ∀ v H, Po v H → ∃ r : Bool, v = some (.int (kr_b r)))
    (hdg : decode cc pc = .ok (.invokeinterface index count, 5)) (hP : ∀ H, P H → kr_is G a (.inr (k, [v0])) H) (hst : st = .ref b :: .ref a :: rest) (hlow : (rest.map fun v => v.category).sum ≤ 8) (hR : F + 2 ≤ rm.frames ∧ 8 + 13 + (8 + (maxL + 11) + L) ≤ rm.locals) (hroom : cs + mc ≤ rm.cells ∧ ss + ms ≤ rm.slots)
    (kk : ∀ v, kr_J G x nL Q (Po v) (cs + mc) (ss + ms) (pc + 5) lv (v.toList ++ rest)) : kr_J G x nL Q P cs ss pc lv st := by
  subst hst
  have e := X.room
  refine kj_run5 (Px := kr_no) (av := #[v0, .ref b]) (fun H locs ls hPH hS hl => ?_) (fun E => kjx_no) kk
  intro T hT0 X0
  obtain ⟨r0, r, hn, hrm, hsta, hrsig⟩ := Cond.declares_spec (X.decl h1)
  obtain ⟨i9, ki, hfi, hki, hii⟩ := X.iface (w := w) h2
  have hri : r0.cls = i9 := Option.some.inj ((findClass_of_methodNamed hn).symm.trans hfi)
  obtain ⟨d, dk, i, hd, hdn, hmade, hi, hasg, hway⟩ := kf_lam X.F hk (U := kx_s x) X.warm
  obtain ⟨kc, tk, file, methk, ck, own, iface, t, found, hkc, hkn, -, -, hmk, hck, -, hml, hlk, hfl, -, -, -, -, -, -, -, -, -, hif, hfd, hsel⟩ := kr_lmade hok hd hdn hmade (kf_obj0 X (State.WarmedH.refl _))
  have hwi : w.cls = (kr_shp k).iface := by rw [hw]
  have hii9 : i = i9 := by
    rw [hwi] at hfi
    exact Option.some.inj (hi.symm.trans hfi)
  subst hii9
  cases hi.symm.trans hif
  have hfr : found = r0 := kr_lnamed hn ⟨hwd.1, hwd.2.1⟩ hfi hki hii (by rw [hw]; exact hfd)
  subst hfr
  obtain ⟨nm1, nm2⟩ := name_of_methodNamed hn hrm
  have hcellH : T.heap[a]? = some ({ cls := kg_L G k, slots := #[v0], vm := .none } : Cell) := by rw [hT0]; exact hP H hPH
  obtain ⟨vm', X₁, hstep⟩ := X0.invokeinterface X.1 (own := y.cls) X.2.2.2.1 (X.hts _ hlink) hn hrm hsta (by rw [hri]; exact hki) hii ⟨hwd.1, hwd.2.1⟩ hcellH (fun c h => by cases h) hkc (by rw [hri]; exact hasg) (by rw [Launch.admits_selectMethod X0.admits]; exact hsel) hmk (by rw [nm1, nm2, hw]; exact hway) (by rw [hfl]; decide) (by simp [Method.isAbstract, hfl, hasFlag, Acc.abstract])
    (g := F0 (kx_m x) pc ls (.ref b :: .ref a :: rest)) rfl (argsL := [.ref b]) (rest := rest) (by
      have h3 := hwd.2.2
      rw [hrsig] at h3
      exact (Option.some.inj h3).symm) rfl (by rw [X.2.1]; exact hdg)
  have hW1 : (kx_s x).WarmedH (T.setVm vm').vm := X₁.warmed
  obtain ⟨d1, dk1, i1, hd1, hdn1, hmade1, -, -, -⟩ := kf_lam X.F hk (U := T.setVm vm') (State.WarmedH.trans X.warm hW1)
  have wc : (Cond.code yS bytes maxL (some .boolean)).before #[] (T.setVm vm') = true := word_at hW1 (lw_self _ hcode).2 (X.hts _ hcode)
  have wi : (Cond.initialized yS.cls).before #[] (T.setVm vm') = true := word_at hW1 (lw_self _ hini).2 (X.hts _ hini)
  have wst : (Cond.static yS).before #[] (T.setVm vm') = true := word_at hW1 (lw_self _ hstat).2 (X.hts _ hstat)
  obtain ⟨mS, hnS⟩ := Cond.code_named wc
  obtain ⟨methS, cS, hmS, -, -, -, -, -, -, hsigS⟩ := Cond.code_spec hnS wc
  obtain ⟨kc1, -, -, -, -, -, -, -, -, hkc1, hkn1, -⟩ := kr_lmade hok hd1 hdn1 hmade1 (kf_obj0 X hW1)
  obtain ⟨v, U, B, T', hU1, hU2, hpost, hT1, hT2, X', hsteps⟩ := kr_fw1 X₁ X.1 (g := F0 (kx_m x) pc ls rest) rfl (by show ls.size = _; rw [hl.1]; exact X.2.2.1.symm) (by rw [X.2.1]; exact hdg) hok hf0 hd1 hdn1 hmade1 (kf_obj0 X hW1) hcellH
    (State.plainMethod.of_name (fun k' hk' => by cases hkc1.symm.trans hk'; rw [hkn1]; exact hpn)) hyS ⟨hyd.1, hyd.2.1⟩ hnS hmS (Cond.static_spec hnS hmS wst) (by
      have h3 := hyd.2.2
      rw [hsigS] at h3
      exact Option.some.inj h3) (fun kk hkk => Cond.initialized_spec (findClass_of_methodNamed hnS) hkk wi)
    (R' := { frames := F + 1, cells := mc, slots := ms, locals := 8 + (maxL + 11) + L }) (Pre := PreOf { frames := F + 1, cells := mc, slots := ms, locals := 8 + (maxL + 11) + L } mc ms (kr_Pc G [v0, .ref b] P)) (Post := PostOf (kr_Qc G Po) mc ms (kr_old G)) (PostX := vx_Post (kr_XC G kr_no) mc ms (kr_old G))
    (fun s' a' e1 e2 => by
      have hW2 : (kx_s x).WarmedH s'.vm := by rw [e1]; exact hW1
      exact vx_back (bytes := bytes) (maxL := maxL) (ret := some .boolean) hT kr_blind rfl rfl (Nat.le_refl _) (Nat.le_refl _) (fun w9 hw9 a9 U9 hW9 => word_at (State.WarmedH.trans hW2 hW9) (lw_meth hcode w9 hw9).2 (X.hts _ (lw_meth hcode w9 hw9).1)) List.mem_cons_self (fun a9 U9 hW9 => word_at (State.WarmedH.trans hW2 hW9) (lw_self _ hini).2 (X.hts _ hini)))
    (fun U hU hUv => ⟨by show 0 + mc ≤ mc; omega, by show 0 + ms ≤ ms; omega, (kr_preS X hPH hS).2 U (hU.trans hT0) (by rw [hUv]; exact hW1)⟩)
    (fun A a' v B hp => by
      obtain ⟨g9, mk9, t9, L9, -, -, ⟨⟨v9, hv9, hp9⟩, -⟩, -⟩ := hp
      cases hv9
      exact hres _ _ hp9)
    (fun A a' q B hx => by
      obtain ⟨g9, mk9, t9, L9, E9, ce9, -, -, hx9, -⟩ := hx
      exact hx9.1)
    (by show F + 1 + 1 ≤ (kx_R x).frames; rw [e]; exact hR.1) (by
      have h3 := lv_room (m := kx_m x) (pc := pc) (ls := ls) (rest := rest) hlow
      have h4 : 2 * (F0 (kx_m x) pc ls rest).monitorRoom + (rest.map fun v => v.category).sum ≤ 8 := h3
      show 2 * (F0 (kx_m x) pc ls rest).monitorRoom + (rest.map fun v => v.category).sum + (2 + 11) + (8 + (maxL + 11) + L) ≤ (kx_R x).locals
      rw [e]
      omega) (by show cs + mc ≤ (kx_R x).cells; rw [e]; exact hroom.1) (by show ss + ms ≤ (kx_R x).slots; rw [e]; exact hroom.2)
  obtain ⟨UB, LB, cB, sB⟩ := B
  obtain ⟨g9, mk9, t9, L9, e1, e2, hq, e3, hL9, e4, e5⟩ := hpost
  dsimp only [Pt.U, Pt.locs, Pt.cells, Pt.slots] at e1 e2 hq e3 e4 e5 X' hT1 hT2 hsteps
  rw [List.nil_append] at e3
  rw [Nat.zero_add] at e4 e5
  subst e3; subst e4; subst e5
  refine Or.inl ⟨v, U.calling g9 mk9 #[v0, .ref b], t9, T', LB, hU1.trans hT0, X', hL9, hT1.trans e1, hT2.trans e2, hq, fun target htg => hstep target fun acts => ?_⟩
  exact (hsteps acts).trans htg

theorem kj_lam2 (X : kr_C G x y cc nL ret rm hh) {k : Nat} (hk : k < 8) (hok : kr_lok k kr_z2) (hf0 : kr_lf k 0 17) (hf1 : kr_lf k 1 19) (hpn : plainName ((kr_sy k).cls ++ "$$Lambda") = true) {w yS : MethodName} {bytes : ByteArray} {maxL F L mc ms index count a b : Nat} {v0 v1 : Value} {rest : List Value} {Po : Option Value → Heap → Prop}
    (hlink : Cond.methodLink y.cls index w ∈ lw_all) (h1 : Cond.declares w ∈ lw_tbl) (h2 : Cond.interfaceMethod w.cls w.cls w.name w.desc ∈ lw_tbl) (hw : w = ⟨(kr_shp k).iface, (kr_shp k).name, (kr_shp k).sam.toString⟩) (hwd : w.cls ≠ "java/lang/invoke/MethodHandle" ∧ w.cls ≠ "java/lang/invoke/VarHandle" ∧ (parseMethodDescriptor w.desc).map (fun d => d.parameters.length) = some 1)
    (hyS : yS = ⟨(kr_shp k).implClass, (kr_shp k).implName, (kr_shp k).implDesc.toString⟩) (hyd : yS.cls ≠ "java/lang/invoke/MethodHandle" ∧ yS.cls ≠ "java/lang/invoke/VarHandle" ∧ (parseMethodDescriptor yS.desc).map (fun d => d.parameters.length) = some 3) (hstat : Cond.static yS ∈ lw_all) (hini : Cond.initialized yS.cls ∈ lw_all) (hcode : Cond.code yS bytes maxL (some .boolean) ∈ lw_all)
    (hT : kr_T G (kx_l x) yS (ws_ yS bytes maxL (some .boolean)) F L [v0, v1, .ref b] P mc ms Po kr_no) (hres : ∀ v H, Po v H → ∃ r : Bool, v = some (.int (kr_b r)))
    (hdg : decode cc pc = .ok (.invokeinterface index count, 5)) (hP : ∀ H, P H → kr_is G a (.inr (k, [v0, v1])) H) (hst : st = .ref b :: .ref a :: rest) (hlow : (rest.map fun v => v.category).sum ≤ 8) (hR : F + 2 ≤ rm.frames ∧ 8 + 13 + (8 + (maxL + 11) + L) ≤ rm.locals) (hroom : cs + mc ≤ rm.cells ∧ ss + ms ≤ rm.slots)
    (kk : ∀ v, kr_J G x nL Q (Po v) (cs + mc) (ss + ms) (pc + 5) lv (v.toList ++ rest)) : kr_J G x nL Q P cs ss pc lv st := by
  subst hst
  have e := X.room
  refine kj_run5 (Px := kr_no) (av := #[v0, v1, .ref b]) (fun H locs ls hPH hS hl => ?_) (fun E => kjx_no) kk
  intro T hT0 X0
  obtain ⟨r0, r, hn, hrm, hsta, hrsig⟩ := Cond.declares_spec (X.decl h1)
  obtain ⟨i9, ki, hfi, hki, hii⟩ := X.iface (w := w) h2
  have hri : r0.cls = i9 := Option.some.inj ((findClass_of_methodNamed hn).symm.trans hfi)
  obtain ⟨d, dk, i, hd, hdn, hmade, hi, hasg, hway⟩ := kf_lam X.F hk (U := kx_s x) X.warm
  obtain ⟨kc, tk, file, methk, ck, own, iface, t, found, hkc, hkn, -, -, hmk, hck, -, hml, hlk, hfl, -, -, -, -, -, -, -, -, -, hif, hfd, hsel⟩ := kr_lmade hok hd hdn hmade (kf_obj0 X (State.WarmedH.refl _))
  have hwi : w.cls = (kr_shp k).iface := by rw [hw]
  have hii9 : i = i9 := by
    rw [hwi] at hfi
    exact Option.some.inj (hi.symm.trans hfi)
  subst hii9
  cases hi.symm.trans hif
  have hfr : found = r0 := kr_lnamed hn ⟨hwd.1, hwd.2.1⟩ hfi hki hii (by rw [hw]; exact hfd)
  subst hfr
  obtain ⟨nm1, nm2⟩ := name_of_methodNamed hn hrm
  have hcellH : T.heap[a]? = some ({ cls := kg_L G k, slots := #[v0, v1], vm := .none } : Cell) := by rw [hT0]; exact hP H hPH
  obtain ⟨vm', X₁, hstep⟩ := X0.invokeinterface X.1 (own := y.cls) X.2.2.2.1 (X.hts _ hlink) hn hrm hsta (by rw [hri]; exact hki) hii ⟨hwd.1, hwd.2.1⟩ hcellH (fun c h => by cases h) hkc (by rw [hri]; exact hasg) (by rw [Launch.admits_selectMethod X0.admits]; exact hsel) hmk (by rw [nm1, nm2, hw]; exact hway) (by rw [hfl]; decide) (by simp [Method.isAbstract, hfl, hasFlag, Acc.abstract])
    (g := F0 (kx_m x) pc ls (.ref b :: .ref a :: rest)) rfl (argsL := [.ref b]) (rest := rest) (by
      have h3 := hwd.2.2
      rw [hrsig] at h3
      exact (Option.some.inj h3).symm) rfl (by rw [X.2.1]; exact hdg)
  have hW1 : (kx_s x).WarmedH (T.setVm vm').vm := X₁.warmed
  obtain ⟨d1, dk1, i1, hd1, hdn1, hmade1, -, -, -⟩ := kf_lam X.F hk (U := T.setVm vm') (State.WarmedH.trans X.warm hW1)
  have wc : (Cond.code yS bytes maxL (some .boolean)).before #[] (T.setVm vm') = true := word_at hW1 (lw_self _ hcode).2 (X.hts _ hcode)
  have wi : (Cond.initialized yS.cls).before #[] (T.setVm vm') = true := word_at hW1 (lw_self _ hini).2 (X.hts _ hini)
  have wst : (Cond.static yS).before #[] (T.setVm vm') = true := word_at hW1 (lw_self _ hstat).2 (X.hts _ hstat)
  obtain ⟨mS, hnS⟩ := Cond.code_named wc
  obtain ⟨methS, cS, hmS, -, -, -, -, -, -, hsigS⟩ := Cond.code_spec hnS wc
  obtain ⟨kc1, -, -, -, -, -, -, -, -, hkc1, hkn1, -⟩ := kr_lmade hok hd1 hdn1 hmade1 (kf_obj0 X hW1)
  obtain ⟨v, U, B, T', hU1, hU2, hpost, hT1, hT2, X', hsteps⟩ := kr_fw2 X₁ X.1 (g := F0 (kx_m x) pc ls rest) rfl (by show ls.size = _; rw [hl.1]; exact X.2.2.1.symm) (by rw [X.2.1]; exact hdg) hok hf0 hf1 hd1 hdn1 hmade1 (kf_obj0 X hW1) hcellH
    (State.plainMethod.of_name (fun k' hk' => by cases hkc1.symm.trans hk'; rw [hkn1]; exact hpn)) hyS ⟨hyd.1, hyd.2.1⟩ hnS hmS (Cond.static_spec hnS hmS wst) (by
      have h3 := hyd.2.2
      rw [hsigS] at h3
      exact Option.some.inj h3) (fun kk hkk => Cond.initialized_spec (findClass_of_methodNamed hnS) hkk wi)
    (R' := { frames := F + 1, cells := mc, slots := ms, locals := 8 + (maxL + 11) + L }) (Pre := PreOf { frames := F + 1, cells := mc, slots := ms, locals := 8 + (maxL + 11) + L } mc ms (kr_Pc G [v0, v1, .ref b] P)) (Post := PostOf (kr_Qc G Po) mc ms (kr_old G)) (PostX := vx_Post (kr_XC G kr_no) mc ms (kr_old G))
    (fun s' a' e1 e2 => by
      have hW2 : (kx_s x).WarmedH s'.vm := by rw [e1]; exact hW1
      exact vx_back (bytes := bytes) (maxL := maxL) (ret := some .boolean) hT kr_blind rfl rfl (Nat.le_refl _) (Nat.le_refl _) (fun w9 hw9 a9 U9 hW9 => word_at (State.WarmedH.trans hW2 hW9) (lw_meth hcode w9 hw9).2 (X.hts _ (lw_meth hcode w9 hw9).1)) List.mem_cons_self (fun a9 U9 hW9 => word_at (State.WarmedH.trans hW2 hW9) (lw_self _ hini).2 (X.hts _ hini)))
    (fun U hU hUv => ⟨by show 0 + mc ≤ mc; omega, by show 0 + ms ≤ ms; omega, (kr_preS X hPH hS).2 U (hU.trans hT0) (by rw [hUv]; exact hW1)⟩)
    (fun A a' v B hp => by
      obtain ⟨g9, mk9, t9, L9, -, -, ⟨⟨v9, hv9, hp9⟩, -⟩, -⟩ := hp
      cases hv9
      exact hres _ _ hp9)
    (fun A a' q B hx => by
      obtain ⟨g9, mk9, t9, L9, E9, ce9, -, -, hx9, -⟩ := hx
      exact hx9.1)
    (by show F + 1 + 1 ≤ (kx_R x).frames; rw [e]; exact hR.1) (by
      have h3 := lv_room (m := kx_m x) (pc := pc) (ls := ls) (rest := rest) hlow
      have h4 : 2 * (F0 (kx_m x) pc ls rest).monitorRoom + (rest.map fun v => v.category).sum ≤ 8 := h3
      show 2 * (F0 (kx_m x) pc ls rest).monitorRoom + (rest.map fun v => v.category).sum + (2 + 11) + (8 + (maxL + 11) + L) ≤ (kx_R x).locals
      rw [e]
      omega) (by show cs + mc ≤ (kx_R x).cells; rw [e]; exact hroom.1) (by show ss + ms ≤ (kx_R x).slots; rw [e]; exact hroom.2)
  obtain ⟨UB, LB, cB, sB⟩ := B
  obtain ⟨g9, mk9, t9, L9, e1, e2, hq, e3, hL9, e4, e5⟩ := hpost
  dsimp only [Pt.U, Pt.locs, Pt.cells, Pt.slots] at e1 e2 hq e3 e4 e5 X' hT1 hT2 hsteps
  rw [List.nil_append] at e3
  rw [Nat.zero_add] at e4 e5
  subst e3; subst e4; subst e5
  refine Or.inl ⟨v, U.calling g9 mk9 #[v0, v1, .ref b], t9, T', LB, hU1.trans hT0, X', hL9, hT1.trans e1, hT2.trans e2, hq, fun target htg => hstep target fun acts => ?_⟩
  exact (hsteps acts).trans htg
end
