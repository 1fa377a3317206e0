/-! LAMBDAS: the classes that the VM made at the sites, by their files; a call of such an object goes on to the static method with what it caught -/
set_option maxRecDepth 100000
def kr_sy (k : Nat) : MethodName := match kr_site k with
  | .lambdaSite y _ _ _ => y
  | _ => ⟨"", "", ""⟩
def kr_spc (k : Nat) : Nat := match kr_site k with
  | .lambdaSite _ pc _ _ => pc
  | _ => 0
def kr_six (k : Nat) : Nat := match kr_site k with
  | .lambdaSite _ _ ix _ => ix
  | _ => 0
def kr_shp (k : Nat) : Lambda.Shape := match kr_site k with
  | .lambdaSite _ _ _ sh => sh
  | _ => default
theorem kf_site {G : kr_G} {l : Launch} (hF : kr_F G l) {k : Nat} (hk : k < 8) : ∃ one, (kg_s G).lambdaAt? (kr_sy k) (kr_spc k) (kr_six k) (kr_shp k) = some (kg_L G k, one) := by
  have h := hF.2.2.2 k hk
  rcases (show k = 0 ∨ k = 1 ∨ k = 2 ∨ k = 3 ∨ k = 4 ∨ k = 5 ∨ k = 6 ∨ k = 7 by omega) with rfl | rfl | rfl | rfl | rfl | rfl | rfl | rfl <;> exact h
def kr_lD (k : Nat) : ClassFile := ((kr_shp k).file (kr_sy k).cls).getD { minorVersion := 0, majorVersion := 0, constantPool := #[], accessFlags := 0, thisClass := 0, superClass := 0, interfaces := #[], fields := #[], methods := #[], attributes := #[] }
def kr_lm (k : Nat) : Method := ((layoutMethods (kr_lD k)).bind (·[1]?)).getD default
def kr_ll (k : Nat) : Array Field × Array FieldType × Array FieldType := (layoutFields (kr_lD k) 0).getD (#[], #[], #[])
/-- code; the call's entry, its class', its name's -/
abbrev kr_lz : Type := ByteArray × Nat × Nat × Nat
def kr_z0 : kr_lz := (⟨#[43, 184, 0, 17, 172]⟩, 17, 14, 16)
def kr_z1 : kr_lz := (⟨#[42, 180, 0, 15, 43, 184, 0, 23, 172]⟩, 23, 19, 22)
def kr_z2 : kr_lz := (⟨#[42, 180, 0, 17, 42, 180, 0, 19, 43, 184, 0, 27, 172]⟩, 27, 23, 26)
def kr_lf (k i j : Nat) : Prop := (kr_lD k).constantPool[j]? = some (.fieldref 2 (j - 1)) ∧ ((kr_lD k).constantPool.nameAndType? (j - 1)).bind (fun q => (kr_ll k).1.findIdx? (·.name == q.1)) = some i ∧ ((kr_ll k).1[i]?).map (fun f => (f.isStatic, f.slot)) = some (false, i)
def kr_lok (k : Nat) (z : kr_lz) : Prop :=
  ((kr_shp k).file (kr_sy k).cls).isSome = true ∧ ((layoutMethods (kr_lD k)).bind (·[1]?)).isSome = true ∧ (layoutFields (kr_lD k) 0).isSome = true ∧
  (kr_lm k).code.map (fun c => (c.code.data, c.maxLocals)) = some (z.1.data, 2) ∧ ((kr_lm k).accessFlags, (kr_lm k).sig.returnType) = (0x0001, some FieldType.boolean) ∧
  (kr_lD k).constantPool[z.2.1]? = some (.methodref z.2.2.1 z.2.2.2) ∧ (kr_lD k).constantPool.className? z.2.2.1 = some (kr_shp k).implClass ∧ (kr_lD k).constantPool.nameAndType? z.2.2.2 = some ((kr_shp k).implName, (kr_shp k).implDesc.toString) ∧
  (kr_lD k).constantPool[z.2.2.1]? = some (.class_ (z.2.2.1 - 1)) ∧ (kr_lD k).constantPool.string? (z.2.2.1 - 1) = some (kr_shp k).implClass ∧ z.2.2.1 ≠ (kr_lD k).thisClass ∧ (kr_ll k).2.1.toList = (kr_shp k).captured
theorem kr_lmade {k : Nat} {z : kr_lz} (hok : kr_lok k z) {e : Setting} {vm : Vm} {d c : ClassId} {dk : Class} (hd : vm.classes[d]? = some dk) (hname : dk.name = (kr_sy k).cls) (h : Lambda.isMade e vm d (kr_shp k) c = true)
    (hO : ∀ o ok, vm.findClass "java/lang/Object" = some o → vm.classes[o]? = some ok → ok.instanceTypes.size = 0) :
    ∃ (kc tk : Class) (file : ClassFile) (methk : Method) (ck : Code) (own iface : ClassId) (t found : MethodId),
      vm.classes[c]? = some kc ∧ kc.name = (kr_sy k).cls ++ "$$Lambda" ∧ kc.cf = some file ∧ file.constantPool = (kr_lD k).constantPool ∧
      vm.method? ⟨c, 1⟩ = some methk ∧ methk.code = some ck ∧ ck.code = z.1 ∧ ck.maxLocals = 2 ∧ methk.locks = false ∧ methk.accessFlags = 0x0001 ∧ methk.sig.returnType = some .boolean ∧
      vm.findClass (kr_shp k).implClass = some own ∧ vm.classes[own]? = some tk ∧ ((methodIn own (kr_shp k).implName (kr_shp k).implDesc.toString tk.isInterface none).ask e vm).1 = .ok t ∧
      vm.methodReady c z.2.1 t ∧ vm.classReady c z.2.2.1 own ∧ (∀ i j, kr_lf k i j → ∃ f, vm.fieldReady c j c f ∧ f.isStatic = false ∧ f.slot = i) ∧ kc.instanceTypes.toList = (kr_shp k).captured ∧ kc.kind = .ordinary ∧
      vm.findClass (kr_shp k).iface = some iface ∧ ((methodIn iface (kr_shp k).name (kr_shp k).sam.toString true none).ask e vm).1 = .ok found ∧ selectMethod {} vm c found = .method ⟨c, 1⟩ := by
  obtain ⟨k1, k2, k3, k4, k5, k6, k7, k8, k9, k10, k11, k12⟩ := hok
  obtain ⟨dk', kc, ok, tk, file, cf, object, iface, own, lay, methods, target, found, hd', hk, hfile, hcf, hobj, hif, hokk, hlay, hms, ht, htk, hg, hfd, hrec, -, -, -, -, hpool, hmeth, hfields, hty, hres, hsel⟩ := Lambda.isMade_spec h
  cases hd.symm.trans hd'
  have hcf2 : cf = kr_lD k := by
    rw [hname] at hcf
    unfold kr_lD
    rw [hcf]
    rfl
  subst hcf2
  rw [hO object ok hobj hokk] at hlay
  have hlay2 : lay = kr_ll k := by
    unfold kr_ll
    rw [hlay]
    rfl
  subst hlay2
  have hm1 : methods[1]? = some (kr_lm k) := by
    obtain ⟨x, hx⟩ := Option.isSome_iff_exists.mp k2
    have hf : kr_lm k = x := by simp [kr_lm, hx]
    rw [hms] at hx
    rw [hf]
    exact hx
  obtain ⟨b, hb, hsame⟩ := hmeth 1 (kr_lm k) hm1
  obtain ⟨-, -, hsig, hfl, x, y, hx, hy, -, hml, hcode, -⟩ := Lambda.sameMethod_spec hsame
  rw [hx] at k4
  simp only [Option.map_some, Option.some.injEq, Prod.mk.injEq] at k4 k5
  have hz : ok.instanceTypes = #[] := Array.eq_empty_of_size_eq_zero (hO object ok hobj hokk)
  refine ⟨kc, tk, file, b, y, own, iface, target, found, hk, by rw [hrec.1, hname], hfile, hpool.2.1, by simp [Vm.method?, hk, hb], hy, ?_, by rw [hml]; exact k4.2, ?_, by rw [hfl]; exact k5.1, by rw [hsig]; exact k5.2, ht, htk, hg, ⟨kc, hk, hres z.2.1 _ (Lambda.resolvedOf_method k6 k7 ht htk k8 hg)⟩, ⟨kc, hk, hres z.2.2.1 _ (Lambda.resolvedOf_class k9 k11 k10 ht)⟩, fun i j hj => ?_, ?_, hrec.2.1, hif, hfd, hsel⟩
  · rw [hcode]
    exact ByteArray.ext k4.1
  · simp [Method.locks, Method.isSynchronized, hfl, k5.1, hasFlag, Acc.synchronized]
  · obtain ⟨j1, j23, j4⟩ := hj
    obtain ⟨⟨nm, dd⟩, j2, j3⟩ := Option.bind_eq_some_iff.mp j23
    obtain ⟨g0, hg0, hp0⟩ := Option.map_eq_some_iff.mp j4
    simp only [Prod.mk.injEq] at hp0
    exact ⟨g0, ⟨kc, i, kc, hk, hres j _ (Lambda.resolvedOf_field j1 j2 j3), hk, hfields i _ hg0⟩, hp0.1, hp0.2⟩
  · rw [hty.1, hz]
    simpa using k12
theorem kr_lok_0 : kr_lok 0 kr_z0 := by unfold kr_lok; decide +kernel
theorem kr_lok_1 : kr_lok 1 kr_z1 := by unfold kr_lok; decide +kernel
theorem kr_lok_2 : kr_lok 2 kr_z1 := by unfold kr_lok; decide +kernel
theorem kr_lok_3 : kr_lok 3 kr_z1 := by unfold kr_lok; decide +kernel
theorem kr_lok_4 : kr_lok 4 kr_z1 := by unfold kr_lok; decide +kernel
theorem kr_lok_5 : kr_lok 5 kr_z1 := by unfold kr_lok; decide +kernel
theorem kr_lok_6 : kr_lok 6 kr_z2 := by unfold kr_lok; decide +kernel
theorem kr_lok_7 : kr_lok 7 kr_z1 := by unfold kr_lok; decide +kernel
theorem kr_lf1 {k : Nat} (h : k = 1 ∨ k = 2 ∨ k = 3 ∨ k = 4 ∨ k = 5 ∨ k = 7) : kr_lf k 0 15 := by
  unfold kr_lf
  rcases h with rfl | rfl | rfl | rfl | rfl | rfl <;> decide +kernel
theorem kr_lf20 : kr_lf 6 0 17 := by unfold kr_lf; decide +kernel
theorem kr_lf21 : kr_lf 6 1 19 := by unfold kr_lf; decide +kernel
