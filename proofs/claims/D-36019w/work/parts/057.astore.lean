/-! A STORE THAT FAILS, in the judgement; a handler of the method itself -/
set_option maxRecDepth 100000
theorem kx_ASE : ∀ w ∈ vx_atM "java/lang/ArrayStoreException" kr_up3, kr_mvt w := kr_mvts [53, 334, 343, 351, 354, 356, 335, 336, 95, 96, 337, 342, 352, 369, 324, 370, 326, 371, 328, 338, 340, 330, 540, 541, 368, 330, 1032, 1033, 1034, 534, 316, 534, 535, 536, 537, 318, 537, 538, 539, 540, 320, 60, 553, 554, 555, 557, 556, 558, 80, 1031, 1042, 1043, 347, 1037, 1038, 1040, 1036, 333, 332, 1035] (by decide +kernel) (by decide +kernel)
/-- the names of the lines' classes, by their numbers from 8 on -/
def kr_lnames : List String := ["KioskReel$Show", "KioskReel$Pause", "KioskReel$Take", "KioskReel$Free", "KioskReel$GoTo", "KioskReel$IfAlone", "KioskReel$Loop", "KioskReel$SetCount", "KioskReel$PlayList"]
def kr_lnots : List Cond := kr_lnames.flatMap fun A => (kr_lnames.filter fun B => decide (A ≠ B)).map fun B => .not (.castable A B)
theorem kr_lnots_at : kr_lnots.map some = ([489, 517, 545, 573, 601, 629, 657, 685, 461, 518, 546, 574, 602, 630, 658, 686, 462, 490, 547, 575, 603, 631, 659, 687, 463, 491, 519, 576, 604, 632, 660, 688, 464, 492, 520, 548, 605, 633, 661, 689, 465, 493, 521, 549, 577, 634, 662, 690, 466, 494, 522, 550, 578, 606, 663, 691, 467, 495, 523, 551, 579, 607, 635, 692, 468, 496, 524, 552, 580, 608, 636, 664] : List Nat).map (fun i => (flatC (Jvm.Cond.and given_1 narrow_1))[i]?) := by decide +kernel
theorem kr_lnc : ∀ A ∈ kr_lnames, ∀ B ∈ kr_lnames, A ≠ B → (Cond.not (.castable A B)) ∈ flatC (Jvm.Cond.and given_1 narrow_1) := by
  intro A hA B hB hne
  have h1 : (Cond.not (.castable A B)) ∈ kr_lnots := List.mem_flatMap.mpr ⟨A, hA, List.mem_map.mpr ⟨B, List.mem_filter.mpr ⟨hB, by simpa using hne⟩, rfl⟩⟩
  have h2 : some (Cond.not (.castable A B)) ∈ kr_lnots.map some := List.mem_map.mpr ⟨_, h1, rfl⟩
  rw [kr_lnots_at] at h2
  obtain ⟨i, -, hi⟩ := List.mem_map.mp h2
  exact List.mem_of_getElem? hi
theorem kr_lntext : ∀ A ∈ kr_lnames, (dotted A == notModelled) = false ∧ (stringBytes (stringToUtf16 (dotted A))).size ≤ 40 := by decide +kernel
section
variable {G : kr_G} {x : kr_X} {y : MethodName} {cc : ByteArray} {nL : Nat} {ret : Option FieldType} {rm : Room} {hh : List (Nat × Nat × Nat × Nat)} {Q : State → Prop} {P P' : Heap → Prop} {cs ss pc : Nat} {lv lv' : List (Option Value)} {st : List Value}
theorem kf_nc {l : Launch} (hF : kr_F G l) {A B : String} (hA : A ∈ kr_lnames) (hB : B ∈ kr_lnames) (hne : A ≠ B) : va_Nc A B (kg_s G) := by
  obtain ⟨b, -, h2⟩ := kf_given hF
  exact va_Nc.of (h2 _ (kr_lnc A hA B hB hne))
theorem kr_shown {s : State} {C : String} {c : ClassId} {k : Class} (h : s.vm.findClass C = some c) (hk : s.vm.classes[c]? = some k) : k.shown = dotted C := by
  obtain ⟨hlt, hp, _⟩ := Array.findIdx?_eq_some_iff_getElem.mp h
  have e : s.vm.classes[c] = k := by
    rw [Array.getElem?_eq_getElem hlt] at hk
    exact Option.some.inj hk
  rw [e] at hp
  simp only [Bool.and_eq_true, beq_iff_eq] at hp
  unfold Class.shown
  have h0 : k.hidden = none := Option.isNone_iff_eq_none.mp hp.1.1.2
  rw [h0, hp.1.1.1]
theorem kj_aastB (X : kr_C G x y cc nL ret rm hh) {a n v ci N : Nat} {f : Nat → Option Nat} {i : Int32} {C E : String} {T : u_T} {fs : List Value} (ti : Nat) (hti : (kr_tys (kg_A G))[ti]? = some (kg_A G ti, .object E)) (hc : kr_cl[ci]? = some (C, T, N)) (hC : C ∈ kr_lnames) (hE : E ∈ kr_lnames) (hne : C ≠ E) (hdg : decode cc pc = .ok (.aastore, 1))
    (hP : ∀ H, P H → kr_own G a (.inl (kg_A G ti, n, .inr (.inr (.inr (.inr f))))) H) (hv : ∀ H, P H → va_at (kg_D G) kr_cl (v, .inr (ci, fs)) H) (hin : vp_in i n) (hm : kr_mono P) (hR : 7 ≤ rm.frames ∧ (st.map fun v => v.category).sum + 10240 ≤ rm.locals) (hr : cs + 3 ≤ rm.cells ∧ ss + 50 ≤ rm.slots)
    (k : kr_JX G x nL Q P (cs + 3) (ss + 50) pc lv "java/lang/ArrayStoreException") : kr_J G x nL Q P cs ss pc lv (.ref v :: .int i :: .ref a :: st) := fun H locs ls hH hS hl => by
  have hw := X.room
  have hi : ¬ (i < 0 ∨ (arrV (kg_A G ti) n (fun j => va_rf (f j))).slots.size ≤ i.toNatClampNeg) := by
    show ¬ (i < 0 ∨ (arrV _ _ _).slots.size ≤ _)
    rw [arrV_size]
    exact hin
  obtain ⟨r', hr', cellV, g1, g2, g3, -⟩ := hv H hH
  have hcls := (X.K.1 ci _ hc).2
  obtain ⟨kA, comp, k1, k2, k3, -⟩ := (X.K.2 ti _ hti).2
  obtain ⟨kC, hkC, hkind⟩ := hcls.2
  obtain ⟨kcomp, hkcomp, -⟩ := Vm.findClass_spec k3
  obtain ⟨c1, c2, d1, d2, hno⟩ := (kf_nc X.F hC hE hne).moved X.warm.alike
  cases Option.some.inj (d1.symm.trans hcls.1)
  cases Option.some.inj (d2.symm.trans k3)
  have hsh : kC.shown = dotted C := kr_shown hcls.1 hkC
  have hN := vx_vm (Q := Q) (pc := pc) (ls := ls) (rest := st) (cls := "java/lang/ArrayStoreException") (text := dotted C) (names := kr_up3) (nb := 40) X.1 (kf_tr X.F) (by decide +kernel) (by decide +kernel) (by decide +kernel) (by decide +kernel) (fun w h => X.mv (kx_ASE w h).1 (kx_ASE w h).2.1) (fun w h => (kx_ASE w h).2.2) (X.zq (kf_U X.F)) (X.zq (kf_N X.F)) hS (by rw [hl.1]; exact X.2.2.1.symm) (kr_lntext C hC).1 (kr_lntext C hC).2 (by omega) ?_ ?_ (by decide) ?_ ?_ X.locks
    (fun H1 q9 ce h1 h2 h3 h4 h5 h6 => k H1 locs ls q9 ce st (hm H H1 hH h1 h2) h3 hl h4 h5 h6)
  · intro T0 hT0 S0
    obtain ⟨t, t1, t2⟩ := hN T0 hT0 S0
    refine ⟨t, ?_, t2⟩
    have hcell := (hP H hH).1
    subst hT0
    refine kr_aastoreBad S0 X.1 (g := F0 (kx_m x) pc ls (.ref v :: .int i :: .ref a :: st)) hcell (fun q h => by cases h) k1 k2 hi g1 (fun q h => by rw [g3] at h; cases h) (by rw [g2]; exact hkC) hkcomp (by rw [g2]; exact hno) rfl rfl ?_ t ?_
    · show decode (kx_c x).code pc = _
      rw [X.2.1]
      exact hdg
    · rw [hsh]
      exact t1
  · show kr_up3.length + 4 < (kx_R x).frames
    rw [hw]
    show 6 < rm.frames
    omega
  · show _ ≤ (kx_R x).locals
    rw [hw]
    exact hR.2
  · show _ ≤ (kx_R x).cells
    rw [hw]
    omega
  · show _ ≤ (kx_R x).slots
    rw [hw]
    omega
/-- a handler of the method takes what is thrown -/
theorem kj_catch (X : kr_C G x y cc nL ret rm hh) {E name : String} (pre : List ExceptionTableEntry) (z : ExceptionTableEntry) (suf : List ExceptionTableEntry) (hsplit : tableOf hh = pre ++ z :: suf) (hpass : ∀ z ∈ pre, covers z pc = false ∨ (z.catchType ≠ 0 ∧ ∃ nm : String, Cond.classLink y.cls z.catchType nm ∈ lw_all ∧ (Cond.not (.castable E nm)) ∈ flatC (Jvm.Cond.and given_1 narrow_1))) (hx : covers z pc = true) (h0 : z.catchType ≠ 0)
    (hlink : Cond.classLink y.cls z.catchType name ∈ lw_all) (hcast : Cond.castable E name ∈ lw_tbl) (k : ∀ q, kr_J G x nL Q P cs ss z.handlerPc lv [.ref q]) : kr_JX G x nL Q P cs ss pc lv E := fun H locs ls q ce rest hP hS hl hc hv hcl => by
  refine vx_catch X.2.2.2.1 pre z suf (X.tab.trans hsplit) (fun w hw => ?_) hx h0 (X.hts _ hlink) (X.cast hcast) hc hv hcl (k q H locs ls hP hS hl)
  rcases hpass w hw with h | ⟨h1, nm, h2, h3⟩
  · exact Or.inl h
  · obtain ⟨b, -, g2⟩ := kf_given X.F
    exact Or.inr ⟨h1, nm, X.hts _ h2, (va_Nc.of (g2 _ h3)).moved X.warm.alike⟩
end
