/-! ROWS OF THE HEAP over any picture P of it -/
set_option maxRecDepth 100000
/-- a cell of the run's own: e lies at a -/
def kr_own (G : kr_G) (a : Nat) (e : va_E) (H : Heap) : Prop := va_at (kg_D G) kr_cl (a, e) H ∧ kr_old G a
/-- H1 is H but for the cell at a -/
def kr_upd (H H1 : Heap) (a : Nat) : Prop := H1.size = H.size ∧ ∀ q : Nat, q ≠ a → H1[q]? = H[q]?
/-- H1 is H and one new cell at its end -/
def kr_new (H H1 : Heap) : Prop := H1.size = H.size + 1 ∧ ∀ q : Nat, q < H.size → H1[q]? = H[q]?
theorem kr_one {D : va_G} {cl : List vw_C} {q : Nat × va_E} {H : Heap} (h : va_at D cl q H) : va_P D cl [q] H := by
  intro k z hk
  have hz : k < 1 := (List.getElem?_eq_some_iff.mp hk).1
  have : k = 0 := by omega
  subst this
  cases hk
  exact h
section
variable {G : kr_G} {x : kr_X} {y : MethodName} {cc : ByteArray} {nL : Nat} {ret : Option FieldType} {rm : Room} {hh : List (Nat × Nat × Nat × Nat)} {Q : State → Prop} {P P' : Heap → Prop} {cs ss pc : Nat} {lv lv' : List (Option Value)} {st : List Value}
theorem kr_C.hts (X : kr_C G x y cc nL ret rm hh) : ∀ w ∈ lw_all, w.before (kx_a x) (kx_s x) = true := X.2.2.2.2.1
theorem kr_C.warm (X : kr_C G x y cc nL ret rm hh) : (kg_s G).WarmedH (kx_s x).vm := X.2.2.2.2.2.1
theorem kr_C.locks (X : kr_C G x y cc nL ret rm hh) : (kx_me x).locks = false := X.2.2.2.2.2.2.1
theorem kr_C.rt (X : kr_C G x y cc nL ret rm hh) : (kx_me x).sig.returnType = ret := X.2.2.2.2.2.2.2.1
theorem kr_C.room (X : kr_C G x y cc nL ret rm hh) : kx_R x = rm := X.2.2.2.2.2.2.2.2.1
theorem kr_C.base (X : kr_C G x y cc nL ret rm hh) : kr_base G (kx_s x).heap := X.2.2.2.2.2.2.2.2.2.1
theorem kr_C.F (X : kr_C G x y cc nL ret rm hh) : kr_F G (kx_l x) := X.2.2.2.2.2.2.2.2.2.2.1
theorem kr_C.name (X : kr_C G x y cc nL ret rm hh) : (kx_me x).name = y.name := X.2.2.2.2.2.2.2.2.2.2.2.1
theorem kr_C.tab (X : kr_C G x y cc nL ret rm hh) : (kx_c x).exceptionTable.toList = tableOf hh := X.2.2.2.2.2.2.2.2.2.2.2.2.1
theorem kr_C.named (X : kr_C G x y cc nL ret rm hh) : (kx_s x).methodNamed? y = some (kx_m x) := X.2.2.2.2.2.2.2.2.2.2.2.2.2
theorem kr_C.K (X : kr_C G x y cc nL ret rm hh) : va_K (kg_D G) kr_cl (kr_tys (kg_A G)) (kx_s x) := va_K.moved X.warm.alike X.F.2.2.1
theorem kr_C.nestF (X : kr_C G x y cc nL ret rm hh) {a : String} {i : Nat} {b n d h : String} (hw : Cond.fieldLinkNest a i b n d h ∈ lw_tbl) {A : Array Value} : (Cond.fieldLinkNest a i b n d h).before A (kx_s x) = true := by
  obtain ⟨⟨b0, h1, -⟩, -⟩ := X.F
  exact va_Nw.use rfl (va_Nw.warmF X.warm (va_Nw.of rfl (h1 _ hw)))
theorem kr_C.nestM (X : kr_C G x y cc nL ret rm hh) {a : String} {i : Nat} {z : MethodName} {h : String} (hw : Cond.methodLinkNest a i z h ∈ lw_tbl) : va_Nw (.methodLinkNest a i z h) (kx_s x) := by
  obtain ⟨⟨b0, h1, -⟩, -⟩ := X.F
  exact va_Nw.warmM X.warm (va_Nw.of rfl (h1 _ hw))
theorem kr_C.cast (X : kr_C G x y cc nL ret rm hh) {C T : String} (hw : Cond.castable C T ∈ lw_tbl) : va_Nw (.castable C T) (kx_s x) := by
  obtain ⟨⟨b0, h1, -⟩, -⟩ := X.F
  exact va_Nw.warmC X.warm (va_Nw.of rfl (h1 _ hw))
theorem kr_C.over (X : kr_C G x y cc nL ret rm hh) {C : String} (hw : Cond.arrayOver (.object C) ∈ lw_tbl) : va_AO C (kx_s x) := by
  obtain ⟨⟨b0, h1, -⟩, -⟩ := X.F
  exact va_AO.moved X.warm.alike (va_AO.of (h1 _ hw))
theorem kr_C.face (X : kr_C G x y cc nL ret rm hh) {C : String} {z w : MethodName} (h1 : Cond.declares z ∈ lw_tbl) (h2 : Cond.interfaceMethod z.cls z.cls z.name z.desc ∈ lw_tbl) (h3 : Cond.publicMethod w ∈ lw_tbl) (h4 : Cond.unhidden C z.name z.desc ∈ lw_tbl) (h5 : Cond.castable C z.cls ∈ lw_tbl) (hz : z.cls ≠ "java/lang/invoke/MethodHandle" ∧ z.cls ≠ "java/lang/invoke/VarHandle") : va_Fw C z w (kx_s x) := by
  obtain ⟨⟨b0, h0, -⟩, -⟩ := X.F
  exact va_Fw.moved hz X.warm.alike (va_Fw.of (h0 _ h1) (h0 _ h2) (h0 _ h3) (h0 _ h4) (h0 _ h5))
theorem kr_put {H H1 : Heap} {locs : List Loc} {a k : Nat} (h : va_S (kr_old G) (kx_s x).heap H locs) (u : kr_upd H H1 a) (ha : kr_old G a) : va_S (kr_old G) (kx_s x).heap H1 (locs ++ [⟨a, k⟩]) := h.put u.1 u.2 ha
theorem kr_push {H H1 : Heap} {locs : List Loc} (h : va_S (kr_old G) (kx_s x).heap H locs) (u : kr_new H H1) : va_S (kr_old G) (kx_s x).heap H1 locs :=
  ⟨Nat.le_trans h.1 (by rw [u.1]; exact Nat.le_succ _), fun q h1 h2 => (u.2 q (Nat.lt_of_lt_of_le h1 h.1)).trans (h.2.1 q h1 h2), h.2.2⟩
/-- getfield -/
theorem kj_get (X : kr_C G x y cc nL ret rm hh) {ci N index a : Nat} {C ref : String} {T : u_T} {ty : Nat → FieldType} {fs : List Value} {v : Value} (hc : kr_cls ci C T N ty) (k0 : Nat) (hk : k0 < N) (hlink : Cond.fieldLink y.cls index ref (T k0).2.1 (T k0).2.2.1 ∈ lw_all) (hsame : (T k0).1 = ref ∨ Cond.sameField ref (T k0).1 (T k0).2.1 (T k0).2.2.1 ∈ lw_all) (hdg : decode cc pc = .ok (.getfield index, 3)) (hP : ∀ H, P H → kr_own G a (.inr (ci, fs)) H) (hv : fs[k0]? = some v)
    (k : kr_J G x nL Q P cs ss (pc + 3) lv (v :: st)) : kr_J G x nL Q P cs ss pc lv (.ref a :: st) := fun H locs ls hH hS hl =>
  va_get X.1 X.2.1 X.hts hc.2.1 X.2.2.2.1 X.K (kr_one (hP H hH).1) 0 rfl hc.1 k0 hk (X.hts _ hlink) (fun z hz => by
    rcases hsame with e | e
    · rw [← e]; exact hz
    · exact u_same (X.hts _ e) z hz) hv hdg (k H locs ls hH hS hl)
/-- getfield of a nest mate's -/
theorem kj_getN (X : kr_C G x y cc nL ret rm hh) {ci N index a : Nat} {C ref host : String} {T : u_T} {ty : Nat → FieldType} {fs : List Value} {v : Value} (hc : kr_cls ci C T N ty) (k0 : Nat) (hk : k0 < N) (hlink : Cond.fieldLinkNest y.cls index ref (T k0).2.1 (T k0).2.2.1 host ∈ lw_tbl) (hsame : (T k0).1 = ref) (hdg : decode cc pc = .ok (.getfield index, 3)) (hP : ∀ H, P H → kr_own G a (.inr (ci, fs)) H) (hv : fs[k0]? = some v)
    (k : kr_J G x nL Q P cs ss (pc + 3) lv (v :: st)) : kr_J G x nL Q P cs ss pc lv (.ref a :: st) := fun H locs ls hH hS hl =>
  va_getN X.1 X.2.1 X.hts hc.2.1 X.2.2.2.1 X.K (kr_one (hP H hH).1) 0 rfl hc.1 k0 hk (X.nestF hlink) (fun z hz => by rw [← hsame]; exact hz) hv hdg (k H locs ls hH hS hl)
/-- putfield -/
theorem kj_put (X : kr_C G x y cc nL ret rm hh) {ci N index a : Nat} {C ref : String} {T : u_T} {ty : Nat → FieldType} {fs : List Value} {v : Value} (hc : kr_cls ci C T N ty) (k0 : Nat) (hk : k0 < N) (hlink : Cond.fieldLink y.cls index ref (T k0).2.1 (T k0).2.2.1 ∈ lw_all) (hsame : (T k0).1 = ref ∨ Cond.sameField ref (T k0).1 (T k0).2.1 (T k0).2.2.1 ∈ lw_all) (hfin : (T k0).2.2.2 = false) (hdg : decode cc pc = .ok (.putfield index, 3)) (hn : narrow (ty k0) v = v) (hfit : fits (ty k0) v = true) (hl0 : k0 < fs.length)
    (hP : ∀ H, P H → kr_own G a (.inr (ci, fs)) H) (hput : ∀ H H1, P H → va_at (kg_D G) kr_cl (a, .inr (ci, fs.set k0 v)) H1 → kr_upd H H1 a → P' H1)
    (k : kr_J G x nL Q P' cs ss (pc + 3) lv st) : kr_J G x nL Q P cs ss pc lv (v :: .ref a :: st) := fun H locs ls hH hS hl => by
  have hap := va_apart (own := y.cls) X.hts hc.2.1 ty hc.2.2.1 hc.2.2.2 X.K hc.1
  obtain ⟨⟨r, h1, cell, q1, q2, q3, q4⟩, ha⟩ := hP H hH
  have hr : r = (C, T, N) := Option.some.inj (h1.symm.trans hc.1)
  subst hr
  obtain ⟨hS', hfc, kC, hkC, hkind⟩ := X.K.1 ci _ hc.1
  obtain ⟨cf, kf, fi, f, hi, hsl⟩ := hS' k0 hk
  have hi2 : (kx_s x).fieldFound? ref (T k0).2.1 (T k0).2.2.1 = some (cf, kf, fi, f) := by
    rcases hsame with e | e
    · rw [← e]; exact hi
    · exact u_same (X.hts _ e) _ hi
  have hlay := X.hts _ (hc.2.1 _ (u_in_lay hk))
  unfold u_lay at hlay
  rw [if_neg (by rw [hfin]; decide)] at hlay
  have hst := (u_facts hfc hkC (u_lays X.hts hc.2.1 hk) hi).1
  have h6 := u_store hfc hkC hkind hlay hi (hc.2.2.1 k0 hk) hn hfit
  refine W.putK X.1 X.2.1 (f := f) ⟨X.2.2.2.1, X.hts _ hlink, ⟨_, _, _, hi2⟩, hst⟩ (by rw [q2]; exact h6) q1 q3 (by rw [hsl]; exact k2_hasslot (q4 k0 hk)) rfl rfl hdg fun H' e1 e2 e3 => ?_
  rw [hsl] at e1 ⊢
  exact k H' _ ls (hput H H' hH ⟨_, hc.1, t_OB.to (V := updV (vp_V fs) k0 v) ⟨_, e1, q2, q3, t_set q4 hap hk v⟩ (fun j _ => vp_updV_set hl0 v j)⟩ ⟨e2, e3⟩) (kr_put hS ⟨e2, e3⟩ ha) hl
/-- putfield of a nest mate's -/
theorem kj_putN (X : kr_C G x y cc nL ret rm hh) {ci N index a : Nat} {C ref host : String} {T : u_T} {ty : Nat → FieldType} {fs : List Value} {v : Value} (hc : kr_cls ci C T N ty) (k0 : Nat) (hk : k0 < N) (hlink : Cond.fieldLinkNest y.cls index ref (T k0).2.1 (T k0).2.2.1 host ∈ lw_tbl) (hsame : (T k0).1 = ref) (hfin : (T k0).2.2.2 = false) (hdg : decode cc pc = .ok (.putfield index, 3)) (hn : narrow (ty k0) v = v) (hfit : fits (ty k0) v = true) (hl0 : k0 < fs.length)
    (hP : ∀ H, P H → kr_own G a (.inr (ci, fs)) H) (hput : ∀ H H1, P H → va_at (kg_D G) kr_cl (a, .inr (ci, fs.set k0 v)) H1 → kr_upd H H1 a → P' H1)
    (k : kr_J G x nL Q P' cs ss (pc + 3) lv st) : kr_J G x nL Q P cs ss pc lv (v :: .ref a :: st) := fun H locs ls hH hS hl => by
  have hap := va_apart (own := y.cls) X.hts hc.2.1 ty hc.2.2.1 hc.2.2.2 X.K hc.1
  obtain ⟨⟨r, h1, cell, q1, q2, q3, q4⟩, ha⟩ := hP H hH
  have hr : r = (C, T, N) := Option.some.inj (h1.symm.trans hc.1)
  subst hr
  obtain ⟨hS', hfc, kC, hkC, hkind⟩ := X.K.1 ci _ hc.1
  obtain ⟨cf, kf, fi, f, hi, hsl⟩ := hS' k0 hk
  have hi2 : (kx_s x).fieldFound? ref (T k0).2.1 (T k0).2.2.1 = some (cf, kf, fi, f) := by rw [← hsame]; exact hi
  have hlay := X.hts _ (hc.2.1 _ (u_in_lay hk))
  unfold u_lay at hlay
  rw [if_neg (by rw [hfin]; decide)] at hlay
  have hst := (u_facts hfc hkC (u_lays X.hts hc.2.1 hk) hi).1
  have h6 := u_store hfc hkC hkind hlay hi (hc.2.2.1 k0 hk) hn hfit
  refine va_WputK X.1 X.2.1 (f := f) X.2.2.2.1 (X.nestF hlink) hi2 hst (by rw [q2]; exact h6) q1 q3 (by rw [hsl]; exact k2_hasslot (q4 k0 hk)) rfl rfl hdg fun H' e1 e2 e3 => ?_
  rw [hsl] at e1 ⊢
  exact k H' _ ls (hput H H' hH ⟨_, hc.1, t_OB.to (V := updV (vp_V fs) k0 v) ⟨_, e1, q2, q3, t_set q4 hap hk v⟩ (fun j _ => vp_updV_set hl0 v j)⟩ ⟨e2, e3⟩) (kr_put hS ⟨e2, e3⟩ ha) hl
/-- putfield of a final field, in its class's constructor -/
theorem kj_putF (X : kr_C G x y cc nL ret rm hh) {ci N index a : Nat} {C ref : String} {T : u_T} {ty : Nat → FieldType} {fs : List Value} {v : Value} (hc : kr_cls ci C T N ty) (k0 : Nat) (hk : k0 < N) (hlink : Cond.fieldLink y.cls index ref (T k0).2.1 (T k0).2.2.1 ∈ lw_all) (hsame : (T k0).1 = ref) (hfin : (T k0).2.2.2 = true) (hname : y.name = "<init>") (hown : (T k0).1 = y.cls) (hdg : decode cc pc = .ok (.putfield index, 3)) (hn : narrow (ty k0) v = v) (hfit : fits (ty k0) v = true) (hl0 : k0 < fs.length)
    (hP : ∀ H, P H → kr_own G a (.inr (ci, fs)) H) (hput : ∀ H H1, P H → va_at (kg_D G) kr_cl (a, .inr (ci, fs.set k0 v)) H1 → kr_upd H H1 a → P' H1)
    (k : kr_J G x nL Q P' cs ss (pc + 3) lv st) : kr_J G x nL Q P cs ss pc lv (v :: .ref a :: st) := fun H locs ls hH hS hl => by
  have hap := va_apart (own := y.cls) X.hts hc.2.1 ty hc.2.2.1 hc.2.2.2 X.K hc.1
  obtain ⟨⟨r, h1, cell, q1, q2, q3, q4⟩, ha⟩ := hP H hH
  have hr : r = (C, T, N) := Option.some.inj (h1.symm.trans hc.1)
  subst hr
  obtain ⟨hS', hfc, kC, hkC, hkind⟩ := X.K.1 ci _ hc.1
  obtain ⟨cf, kf, fi, f, hi, hsl⟩ := hS' k0 hk
  have hi2 : (kx_s x).fieldFound? ref (T k0).2.1 (T k0).2.2.1 = some (cf, kf, fi, f) := by rw [← hsame]; exact hi
  have hst := (u_facts hfc hkC (u_lays X.hts hc.2.1 hk) hi).1
  have h6 := u_fits hfc hkC hkind (u_lays X.hts hc.2.1 hk) hi (hc.2.2.1 k0 hk) hn hfit
  have hlay := X.hts _ (hc.2.1 _ (u_in_lay hk))
  unfold u_lay at hlay
  rw [if_pos hfin] at hlay
  have hcf : (kx_m x).cls = cf := by
    obtain ⟨_, _, c', _, _, _, -, -, hf', -, -, -, hown2, -⟩ := Cond.laysFinal_spec hlay
    have e1 : c' = cf := by
      have := hi.symm.trans hf'
      simp at this
      exact this.1.symm
    rw [hown] at hown2
    rw [← e1]
    exact Option.some.inj (X.2.2.2.1.symm.trans hown2)
  refine W.putFinK X.1 X.2.1 X.2.2.2.1 (X.hts _ hlink) hi2 hst hcf (X.name.trans hname) (by rw [q2]; exact h6) q1 q3 (by rw [hsl]; exact k2_hasslot (q4 k0 hk)) rfl rfl hdg fun H' e1 e2 e3 => ?_
  rw [hsl] at e1 ⊢
  exact k H' _ ls (hput H H' hH ⟨_, hc.1, t_OB.to (V := updV (vp_V fs) k0 v) ⟨_, e1, q2, q3, t_set q4 hap hk v⟩ (fun j _ => vp_updV_set hl0 v j)⟩ ⟨e2, e3⟩) (kr_put hS ⟨e2, e3⟩ ha) hl
theorem kj_iald (X : kr_C G x y cc nL ret rm hh) {a n : Nat} {f : Nat → Int32} {i : Int32} (hdg : decode cc pc = .ok (.iaload, 1)) (hP : ∀ H, P H → kr_own G a (.inl (kg_A G 0, n, .inl f)) H) (hin : vp_in i n)
    (k : kr_J G x nL Q P cs ss (pc + 1) lv (.int (f i.toNatClampNeg) :: st)) : kr_J G x nL Q P cs ss pc lv (.int i :: .ref a :: st) := fun H locs ls hH hS hl =>
  va_iald X.1 X.2.1 X.K (kr_one (hP H hH).1) 0 0 rfl rfl hin hdg (k H locs ls hH hS hl)
theorem kj_zald (X : kr_C G x y cc nL ret rm hh) {a n : Nat} {f : Nat → Int32} {i : Int32} (hdg : decode cc pc = .ok (.baload, 1)) (hP : ∀ H, P H → kr_own G a (.inl (kg_A G 1, n, .inl f)) H) (hin : vp_in i n)
    (k : kr_J G x nL Q P cs ss (pc + 1) lv (.int (f i.toNatClampNeg) :: st)) : kr_J G x nL Q P cs ss pc lv (.int i :: .ref a :: st) := fun H locs ls hH hS hl =>
  va_zald X.1 X.2.1 X.K (kr_one (hP H hH).1) 0 1 rfl rfl hin hdg (k H locs ls hH hS hl)
theorem kj_cald (X : kr_C G x y cc nL ret rm hh) {a n : Nat} {f : Nat → Int32} {i : Int32} (hdg : decode cc pc = .ok (.caload, 1)) (hP : ∀ H, P H → kr_own G a (.inl (kg_A G 4, n, .inl f)) H) (hin : vp_in i n)
    (k : kr_J G x nL Q P cs ss (pc + 1) lv (.int (f i.toNatClampNeg) :: st)) : kr_J G x nL Q P cs ss pc lv (.int i :: .ref a :: st) := fun H locs ls hH hS hl =>
  va_cald X.1 X.2.1 X.K (kr_one (hP H hH).1) 0 4 rfl rfl hin hdg (k H locs ls hH hS hl)
theorem kj_lald (X : kr_C G x y cc nL ret rm hh) {a n : Nat} {f : Nat → Int64} {i : Int32} (hdg : decode cc pc = .ok (.laload, 1)) (hP : ∀ H, P H → kr_own G a (.inl (kg_A G 2, n, .inr (.inl f))) H) (hin : vp_in i n)
    (k : kr_J G x nL Q P cs ss (pc + 1) lv (.long (f i.toNatClampNeg) :: st)) : kr_J G x nL Q P cs ss pc lv (.int i :: .ref a :: st) := fun H locs ls hH hS hl =>
  va_lald X.1 X.2.1 X.K (kr_one (hP H hH).1) 0 2 rfl rfl hin hdg (k H locs ls hH hS hl)
theorem kj_dald (X : kr_C G x y cc nL ret rm hh) {a n : Nat} {f : Nat → UInt64} {i : Int32} (hdg : decode cc pc = .ok (.daload, 1)) (hP : ∀ H, P H → kr_own G a (.inl (kg_A G 3, n, .inr (.inr (.inr (.inl f))))) H) (hin : vp_in i n)
    (k : kr_J G x nL Q P cs ss (pc + 1) lv (.double (f i.toNatClampNeg) :: st)) : kr_J G x nL Q P cs ss pc lv (.int i :: .ref a :: st) := fun H locs ls hH hS hl =>
  va_dald X.1 X.2.1 X.K (kr_one (hP H hH).1) 0 3 rfl rfl hin hdg (k H locs ls hH hS hl)
theorem kj_aald (X : kr_C G x y cc nL ret rm hh) {a n : Nat} {f : Nat → Option Nat} {i : Int32} {C : String} (ti : Nat) (hti : (kr_tys (kg_A G))[ti]? = some (kg_A G ti, .object C)) (hdg : decode cc pc = .ok (.aaload, 1)) (hP : ∀ H, P H → kr_own G a (.inl (kg_A G ti, n, .inr (.inr (.inr (.inr f))))) H) (hin : vp_in i n)
    (k : kr_J G x nL Q P cs ss (pc + 1) lv (va_rf (f i.toNatClampNeg) :: st)) : kr_J G x nL Q P cs ss pc lv (.int i :: .ref a :: st) := fun H locs ls hH hS hl =>
  va_aldq X.1 X.2.1 X.K (kr_one (hP H hH).1) 0 ti rfl hti hin hdg (k H locs ls hH hS hl)
theorem kj_alen (X : kr_C G x y cc nL ret rm hh) {a : Nat} {z : vp_A} {v : Int32} {ty : FieldType} (ti : Nat) (hti : (kr_tys (kg_A G))[ti]? = some (kg_A G ti, ty)) (hdg : decode cc pc = .ok (.arraylength, 1)) (hP : ∀ H, P H → kr_own G a (.inl (kg_A G ti, z)) H) (hv : Int32.ofNat z.1 = v)
    (k : kr_J G x nL Q P cs ss (pc + 1) lv (.int v :: st)) : kr_J G x nL Q P cs ss pc lv (.ref a :: st) := fun H locs ls hH hS hl =>
  va_alen X.1 X.2.1 X.K (kr_one (hP H hH).1) 0 ti rfl hti hv hdg (k H locs ls hH hS hl)
theorem kj_iast (X : kr_C G x y cc nL ret rm hh) {a n : Nat} {f : Nat → Int32} {i : Int32} {v : Int32} (hdg : decode cc pc = .ok (.iastore, 1)) (hP : ∀ H, P H → kr_own G a (.inl (kg_A G 0, n, .inl f)) H) (hin : vp_in i n) (hput : ∀ H H1, P H → va_at (kg_D G) kr_cl (a, .inl (kg_A G 0, n, .inl (upd f i.toNatClampNeg v))) H1 → kr_upd H H1 a → P' H1)
    (k : kr_J G x nL Q P' cs ss (pc + 1) lv st) : kr_J G x nL Q P cs ss pc lv (.int v :: .int i :: .ref a :: st) := fun H locs ls hH hS hl => by
  refine W.iast X.1 X.2.1 (hP H hH).1 ((X.K.2 0 _ rfl).1 n (fun j => .int (f j))) (fun q => by cases q) (by show ¬ (i < 0 ∨ (arrV _ _ _).slots.size ≤ _); rw [arrV_size]; exact hin) rfl rfl hdg fun H1 e z oq => ?_
  refine k H1 _ ls (hput H H1 hH ?_ ⟨z, oq⟩) (kr_put hS ⟨z, oq⟩ (hP H hH).2) hl
  show H1[a]? = some (vp_cell _ _)
  rw [e]
  rw [vp_cell_i, vp_cell_i, arrV_store]
  congr 2
  funext q
  by_cases hq : q = i.toNatClampNeg
  · subst hq
    simp [updV, upd]
    try rfl
  · simp [updV, upd, hq]
theorem kj_zast (X : kr_C G x y cc nL ret rm hh) {a n : Nat} {f : Nat → Int32} {i : Int32} {v : Int32} (hdg : decode cc pc = .ok (.bastore, 1)) (hP : ∀ H, P H → kr_own G a (.inl (kg_A G 1, n, .inl f)) H) (hin : vp_in i n) (hput : ∀ H H1, P H → va_at (kg_D G) kr_cl (a, .inl (kg_A G 1, n, .inl (upd f i.toNatClampNeg (vp_nar .boolean v)))) H1 → kr_upd H H1 a → P' H1)
    (k : kr_J G x nL Q P' cs ss (pc + 1) lv st) : kr_J G x nL Q P cs ss pc lv (.int v :: .int i :: .ref a :: st) := fun H locs ls hH hS hl => by
  refine W.zast X.1 X.2.1 (hP H hH).1 ((X.K.2 1 _ rfl).1 n (fun j => .int (f j))) (fun q => by cases q) (by show ¬ (i < 0 ∨ (arrV _ _ _).slots.size ≤ _); rw [arrV_size]; exact hin) rfl rfl hdg fun H1 e z oq => ?_
  refine k H1 _ ls (hput H H1 hH ?_ ⟨z, oq⟩) (kr_put hS ⟨z, oq⟩ (hP H hH).2) hl
  show H1[a]? = some (vp_cell _ _)
  rw [e]
  rw [vp_cell_i, vp_cell_i, arrV_store]
  congr 2
  funext q
  by_cases hq : q = i.toNatClampNeg
  · subst hq
    simp [updV, upd, vp_nar]
    try rfl
  · simp [updV, upd, hq]
theorem kj_cast (X : kr_C G x y cc nL ret rm hh) {a n : Nat} {f : Nat → Int32} {i : Int32} {v : Int32} (hdg : decode cc pc = .ok (.castore, 1)) (hP : ∀ H, P H → kr_own G a (.inl (kg_A G 4, n, .inl f)) H) (hin : vp_in i n) (hput : ∀ H H1, P H → va_at (kg_D G) kr_cl (a, .inl (kg_A G 4, n, .inl (upd f i.toNatClampNeg (vp_nar .char v)))) H1 → kr_upd H H1 a → P' H1)
    (k : kr_J G x nL Q P' cs ss (pc + 1) lv st) : kr_J G x nL Q P cs ss pc lv (.int v :: .int i :: .ref a :: st) := fun H locs ls hH hS hl => by
  refine W.cast X.1 X.2.1 (hP H hH).1 ((X.K.2 4 _ rfl).1 n (fun j => .int (f j))) (fun q => by cases q) (by show ¬ (i < 0 ∨ (arrV _ _ _).slots.size ≤ _); rw [arrV_size]; exact hin) rfl rfl hdg fun H1 e z oq => ?_
  refine k H1 _ ls (hput H H1 hH ?_ ⟨z, oq⟩) (kr_put hS ⟨z, oq⟩ (hP H hH).2) hl
  show H1[a]? = some (vp_cell _ _)
  rw [e]
  rw [vp_cell_i, vp_cell_i, arrV_store]
  congr 2
  funext q
  by_cases hq : q = i.toNatClampNeg
  · subst hq
    simp [updV, upd, vp_nar]
    try rfl
  · simp [updV, upd, hq]
theorem kj_last (X : kr_C G x y cc nL ret rm hh) {a n : Nat} {f : Nat → Int64} {i : Int32} {v : Int64} (hdg : decode cc pc = .ok (.lastore, 1)) (hP : ∀ H, P H → kr_own G a (.inl (kg_A G 2, n, .inr (.inl f))) H) (hin : vp_in i n) (hput : ∀ H H1, P H → va_at (kg_D G) kr_cl (a, .inl (kg_A G 2, n, .inr (.inl (vp_updL f i.toNatClampNeg v)))) H1 → kr_upd H H1 a → P' H1)
    (k : kr_J G x nL Q P' cs ss (pc + 1) lv st) : kr_J G x nL Q P cs ss pc lv (.long v :: .int i :: .ref a :: st) := fun H locs ls hH hS hl => by
  refine W.last X.1 X.2.1 (hP H hH).1 ((X.K.2 2 _ rfl).1 n (fun j => .long (f j))) (fun q => by cases q) (by show ¬ (i < 0 ∨ (arrV _ _ _).slots.size ≤ _); rw [arrV_size]; exact hin) rfl rfl hdg fun H1 e z oq => ?_
  refine k H1 _ ls (hput H H1 hH ?_ ⟨z, oq⟩) (kr_put hS ⟨z, oq⟩ (hP H hH).2) hl
  show H1[a]? = some (vp_cell _ _)
  rw [e]
  rw [vp_cell_l, vp_cell_l, arrV_store]
  congr 2
  funext q
  by_cases hq : q = i.toNatClampNeg
  · subst hq
    simp [updV, vp_updL]
    try rfl
  · simp [updV, vp_updL, hq]
theorem kj_dast (X : kr_C G x y cc nL ret rm hh) {a n : Nat} {f : Nat → UInt64} {i : Int32} {v : UInt64} (hdg : decode cc pc = .ok (.dastore, 1)) (hP : ∀ H, P H → kr_own G a (.inl (kg_A G 3, n, .inr (.inr (.inr (.inl f))))) H) (hin : vp_in i n) (hput : ∀ H H1, P H → va_at (kg_D G) kr_cl (a, .inl (kg_A G 3, n, .inr (.inr (.inr (.inl (vf_upd f i.toNatClampNeg v)))))) H1 → kr_upd H H1 a → P' H1)
    (k : kr_J G x nL Q P' cs ss (pc + 1) lv st) : kr_J G x nL Q P cs ss pc lv (.double v :: .int i :: .ref a :: st) := fun H locs ls hH hS hl => by
  refine W.dast X.1 X.2.1 (hP H hH).1 ((X.K.2 3 _ rfl).1 n (fun j => .double (f j))) (fun q => by cases q) (by show ¬ (i < 0 ∨ (arrV _ _ _).slots.size ≤ _); rw [arrV_size]; exact hin) rfl rfl hdg fun H1 e z oq => ?_
  refine k H1 _ ls (hput H H1 hH ?_ ⟨z, oq⟩) (kr_put hS ⟨z, oq⟩ (hP H hH).2) hl
  show H1[a]? = some (vp_cell _ _)
  rw [e]
  rw [vp_cell_d, vp_cell_d, arrV_store]
  congr 2
  funext q
  by_cases hq : q = i.toNatClampNeg
  · subst hq
    simp [updV, vf_upd]
    try rfl
  · simp [updV, vf_upd, hq]
/-- a reference into an array of its own class -/
theorem kj_aast (X : kr_C G x y cc nL ret rm hh) {a n v ci N : Nat} {f : Nat → Option Nat} {i : Int32} {C E : String} {T : u_T} {fs : List Value} (ti : Nat) (hti : (kr_tys (kg_A G))[ti]? = some (kg_A G ti, .object E)) (hc : kr_cl[ci]? = some (C, T, N)) (hcast : C = E ∨ Cond.castable C E ∈ lw_tbl) (hdg : decode cc pc = .ok (.aastore, 1)) (hP : ∀ H, P H → kr_own G a (.inl (kg_A G ti, n, .inr (.inr (.inr (.inr f))))) H) (hv : ∀ H, P H → va_at (kg_D G) kr_cl (v, .inr (ci, fs)) H) (hin : vp_in i n) (hput : ∀ H H1, P H → va_at (kg_D G) kr_cl (a, .inl (kg_A G ti, n, .inr (.inr (.inr (.inr (va_up f i.toNatClampNeg (some v))))))) H1 → kr_upd H H1 a → P' H1)
    (k : kr_J G x nL Q P' cs ss (pc + 1) lv st) : kr_J G x nL Q P cs ss pc lv (.ref v :: .int i :: .ref a :: st) := fun H locs ls hH hS hl => by
  have hlt : i.toNatClampNeg < n := Nat.not_le.mp fun q => hin (Or.inr q)
  have h0 : ¬ i < 0 := fun q => hin (Or.inl q)
  obtain ⟨r', hr', cellV, g1, g2, g3, -⟩ := hv H hH
  have hcls := (X.K.1 ci _ hc).2
  obtain ⟨kA, comp, k1, k2, k3, -⟩ := (X.K.2 ti _ hti).2
  obtain ⟨kC, hkC, hkind⟩ := hcls.2
  obtain ⟨kcomp, hkcomp, -⟩ := Vm.findClass_spec k3
  have hasg : (kx_s x).vm.assignable ((kg_D G).1 ci) comp = true := by
    rcases hcast with e | e
    · subst e
      have hcomp : comp = (kg_D G).1 ci := Option.some.inj (k3.symm.trans hcls.1)
      subst hcomp
      exact va_assign hcls
    · obtain ⟨c3, c4, hc3, hc4, hasg⟩ := Cond.castable_spec (X.cast e)
      cases Option.some.inj (hc3.symm.trans hcls.1)
      cases Option.some.inj (hc4.symm.trans k3)
      exact hasg
  refine W.aast X.1 X.2.1 (hP H hH).1 (fun q h => by cases h) (fun h => by cases h) k1 k2 rfl hkcomp ⟨h0, by show _ < (arrV _ _ _).slots.size; rw [arrV_size]; exact hlt⟩ g1 (fun q h => by rw [g3] at h; cases h) (by rw [g2]; exact hkC) (by rw [g2]; exact hasg) rfl rfl hdg fun H1 e z oq => ?_
  refine k H1 _ ls (hput H H1 hH ?_ ⟨z, oq⟩) (kr_put hS ⟨z, oq⟩ (hP H hH).2) hl
  show H1[a]? = some (vp_cell _ _)
  rw [e]
  rw [vp_cell_q, vp_cell_q, arrV_store]
  congr 2
  funext q
  by_cases hq : q = i.toNatClampNeg
  · subst hq
    simp [updV, va_up, va_rf]
  · simp [updV, va_up, hq]
/-- null into an array -/
theorem kj_aastN (X : kr_C G x y cc nL ret rm hh) {a n : Nat} {f : Nat → Option Nat} {i : Int32} {E : String} (ti : Nat) (hti : (kr_tys (kg_A G))[ti]? = some (kg_A G ti, .object E)) (hdg : decode cc pc = .ok (.aastore, 1)) (hP : ∀ H, P H → kr_own G a (.inl (kg_A G ti, n, .inr (.inr (.inr (.inr f))))) H) (hin : vp_in i n) (hput : ∀ H H1, P H → va_at (kg_D G) kr_cl (a, .inl (kg_A G ti, n, .inr (.inr (.inr (.inr (va_up f i.toNatClampNeg none)))))) H1 → kr_upd H H1 a → P' H1)
    (k : kr_J G x nL Q P' cs ss (pc + 1) lv st) : kr_J G x nL Q P cs ss pc lv (.null :: .int i :: .ref a :: st) := fun H locs ls hH hS hl => by
  refine va_WaastN X.1 X.2.1 (hP H hH).1 ((X.K.2 ti _ hti).1 n (fun j => va_rf (f j))) (fun q => by cases q) (by show ¬ (i < 0 ∨ (arrV _ _ _).slots.size ≤ _); rw [arrV_size]; exact hin) rfl rfl hdg fun H1 e z oq => ?_
  refine k H1 _ ls (hput H H1 hH ?_ ⟨z, oq⟩) (kr_put hS ⟨z, oq⟩ (hP H hH).2) hl
  show H1[a]? = some (vp_cell _ _)
  rw [e]
  rw [vp_cell_q, vp_cell_q, arrV_store]
  congr 2
  funext q
  by_cases hq : q = i.toNatClampNeg
  · subst hq
    simp [updV, va_up, va_rf]
  · simp [updV, va_up, hq]
/-- new -/
theorem kj_new (X : kr_C G x y cc nL ret rm hh) {ci N index : Nat} {C : String} {T : u_T} {ty : Nat → FieldType} {fs : List Value} (hc : kr_cls ci C T N ty) {Pn : Nat → Heap → Prop} (hlink : Cond.classLink y.cls index C ∈ lw_all) (hinst : Cond.instantiable C N ∈ lw_all) (hini : Cond.initialized C ∈ lw_all) (hfs : ∀ j, j < N → defaultValue (ty j) = vp_V fs j) (hdg : decode cc pc = .ok (.new index, 3)) (hcells : cs + 1 ≤ rm.cells) (hslots : ss + N ≤ rm.slots)
    (hput : ∀ H H1, P H → kr_old G H.size → va_at (kg_D G) kr_cl (H.size, .inr (ci, fs)) H1 → kr_new H H1 → Pn H.size H1)
    (k : ∀ q, kr_J G x nL Q (Pn q) (cs + 1) (ss + N) (pc + 3) lv (.ref q :: st)) : kr_J G x nL Q P cs ss pc lv st := fun H locs ls hH hS hl => by
  have hKn := X.K.1 ci _ hc.1
  have hR := X.room
  refine W.newcK X.1 X.2.1 X.2.2.2.1 (X.hts _ hlink) (X.hts _ hinst) (X.hts _ hini) rfl hdg (by show cs + 1 ≤ (kx_R x).cells; rw [hR]; exact hcells) (by show ss + N ≤ (kx_R x).slots; rw [hR]; exact hslots) hKn.2.1 rfl fun H1 kC hkC e1 z1 o1 => ?_
  exact k H.size H1 locs ls (hput H H1 hH (Nat.le_trans X.base.1 hS.1) ⟨_, hc.1, (u_born ty X.hts hc.2.1 hKn hkC e1 hc.2.2.1).to hfs⟩ ⟨z1, o1⟩) (kr_push hS ⟨z1, o1⟩) hl
/-- newarray -/
theorem kj_newa (X : kr_C G x y cc nL ret rm hh) {atype : ArrayType} {ty : FieldType} {n : Int32} {N : Nat} {a0 : vp_A} {Pn : Nat → Heap → Prop} (ti : Nat) (hti : (kr_tys (kg_A G))[ti]? = some (kg_A G ti, ty)) (hty : newarray.typeOf atype = ty) (harr : Cond.arrayClass ty ∈ lw_all) (ha : ∀ cA : ClassId, vp_cell cA a0 = arrV cA N (fun _ => defaultValue ty)) (hdg : decode cc pc = .ok (.newarray atype, 2)) (hn : ¬ n < 0) (hN : n.toNatClampNeg = N) (hbytes : N * componentBytes ty ≤ 536870912) (hcells : cs + 1 ≤ rm.cells) (hslots : ss + N ≤ rm.slots)
    (hput : ∀ H H1, P H → kr_old G H.size → va_at (kg_D G) kr_cl (H.size, .inl (kg_A G ti, a0)) H1 → kr_new H H1 → Pn H.size H1)
    (k : ∀ q, kr_J G x nL Q (Pn q) (cs + 1) (ss + N) (pc + 2) lv (.ref q :: st)) : kr_J G x nL Q P cs ss pc lv (.int n :: st) := fun H locs ls hH hS hl => by
  subst hty
  have hR := X.room
  refine va_newaK X.1 X.2.1 (X.hts _ harr) rfl hdg rfl hn hN hbytes (by show cs + 1 ≤ (kx_R x).cells; rw [hR]; exact hcells) (by show ss + N ≤ (kx_R x).slots; rw [hR]; exact hslots) rfl fun H1 cA e1 z1 o1 hAr hNm => ?_
  have hcA : cA = kg_A G ti := by
    have h2 := (X.K.2 ti _ hti).2
    have h3 : (kx_s x).vm.findClass ("[" ++ (newarray.typeOf atype).toString) = some (kg_A G ti) := by
      cases atype <;> exact h2
    exact Option.some.inj (hNm.symm.trans h3)
  subst hcA
  refine k H.size H1 locs ls (hput H H1 hH (Nat.le_trans X.base.1 hS.1) ?_ ⟨z1, o1⟩) (kr_push hS ⟨z1, o1⟩) hl
  show H1[H.size]? = some (vp_cell _ _)
  rw [ha]
  exact e1
/-- anewarray -/
theorem kj_anew (X : kr_C G x y cc nL ret rm hh) {index : Nat} {C : String} {n : Int32} {N : Nat} {Pn : Nat → Heap → Prop} (ti : Nat) (hti : (kr_tys (kg_A G))[ti]? = some (kg_A G ti, .object C)) (hlink : Cond.classLink y.cls index C ∈ lw_all) (hover : Cond.arrayOver (.object C) ∈ lw_tbl) (hdg : decode cc pc = .ok (.anewarray index, 3)) (hn : ¬ n < 0) (hN : n.toNatClampNeg = N) (hbytes : N * 4 ≤ 536870912) (hcells : cs + 1 ≤ rm.cells) (hslots : ss + N ≤ rm.slots)
    (hput : ∀ H H1, P H → kr_old G H.size → va_at (kg_D G) kr_cl (H.size, .inl (kg_A G ti, N, .inr (.inr (.inr (.inr (fun _ => none)))))) H1 → kr_new H H1 → Pn H.size H1)
    (k : ∀ q, kr_J G x nL Q (Pn q) (cs + 1) (ss + N) (pc + 3) lv (.ref q :: st)) : kr_J G x nL Q P cs ss pc lv (.int n :: st) := fun H locs ls hH hS hl => by
  subst hN
  have hR := X.room
  refine W.anew X.1 X.2.1 X.2.2.2.1 (X.hts _ hlink) (va_AO.use (X.over hover)) rfl hdg rfl hn hbytes (by show cs + 1 ≤ (kx_R x).cells; rw [hR]; exact hcells) (by show ss + n.toNatClampNeg ≤ (kx_R x).slots; rw [hR]; exact hslots) fun cA kA comp f1 f2 f3 f4 => ?_
  generalize hH1 : H.push ({ cls := cA, slots := Array.replicate n.toNatClampNeg .null, vm := .none } : Cell) = H1
  have z1 : H1.size = H.size + 1 := by rw [← hH1, Array.size_push]
  have e1 : H1[H.size]? = some (arrV cA n.toNatClampNeg (fun _ => .null)) := by rw [← hH1, Array.getElem?_push_size, ← arrV_new]
  have o1 : ∀ q : Nat, q < H.size → H1[q]? = H[q]? := fun q hq => by rw [← hH1, Array.getElem?_push, if_neg (Nat.ne_of_lt hq)]
  have hcA : cA = kg_A G ti := by
    obtain ⟨kA', comp', -, -, -, h4⟩ := (X.K.2 ti _ hti).2
    exact Option.some.inj (f1.symm.trans h4)
  subst hcA
  refine k H.size H1 locs ls (hput H H1 hH (Nat.le_trans X.base.1 hS.1) ?_ ⟨z1, o1⟩) (kr_push hS ⟨z1, o1⟩) hl
  show H1[H.size]? = some (vp_cell _ _)
  rw [vp_cell_q]
  exact e1
/-- Object's constructor -/
theorem kj_objInit (X : kr_C G x y cc nL ret rm hh) {index a : Nat} (hlink : Cond.methodLink y.cls index Lib.objectInit ∈ lw_all) (hinst : Cond.instanceMethod Lib.objectInit ∈ lw_all) (hcode : Cond.code Lib.objectInit ⟨#[0xb1]⟩ 1 none ∈ lw_all) (hdg : decode cc pc = .ok (.invokespecial index, 3)) (hf : 1 ≤ rm.frames) (hlo : (st.map fun v => v.category).sum + 12 ≤ rm.locals)
    (k : kr_J G x nL Q P cs ss (pc + 3) lv st) : kr_J G x nL Q P cs ss pc lv (.ref a :: st) := fun H locs ls hH hS hl => by
  have hR := X.room
  refine W.objInit X.1 X.2.1 X.2.2.2.1 (X.hts _ hlink) (X.hts _ hinst) (X.hts _ hcode) rfl (by show ls.size = (kx_c x).maxLocals; rw [X.2.2.1]; exact hl.1) rfl hdg (by show 1 ≤ (kx_R x).frames; rw [hR]; exact hf) (by show 2 * (F0 (kx_m x) pc ls (.ref a :: st)).monitorRoom + _ + 12 ≤ (kx_R x).locals; rw [hR]; have : (F0 (kx_m x) pc ls (.ref a :: st)).monitorRoom = 0 := rfl; omega) ?_
  exact k H locs ls hH hS hl
/-- checkcast of an object -/
theorem kj_ccast (X : kr_C G x y cc nL ret rm hh) {index a ci N : Nat} {C nm : String} {T : u_T} {fs : List Value} (hc : kr_cl[ci]? = some (C, T, N)) (hlink : Cond.classLink y.cls index nm ∈ lw_all) (hcast : Cond.castable C nm ∈ lw_tbl) (hdg : decode cc pc = .ok (.checkcast index, 3)) (hP : ∀ H, P H → va_at (kg_D G) kr_cl (a, .inr (ci, fs)) H)
    (k : kr_J G x nL Q P cs ss (pc + 3) lv (.ref a :: st)) : kr_J G x nL Q P cs ss pc lv (.ref a :: st) := fun H locs ls hH hS hl =>
  va_castY X.1 X.2.1 X.2.2.2.1 (X.hts _ hlink) (X.cast hcast) (va_recv X.K (kr_one (hP H hH)) hc (q0 := 0) rfl) hdg (k H locs ls hH hS hl)
/-- checkcast of null -/
theorem kj_ccastN (X : kr_C G x y cc nL ret rm hh) {index : Nat} (hdg : decode cc pc = .ok (.checkcast index, 3))
    (k : kr_J G x nL Q P cs ss (pc + 3) lv (.null :: st)) : kr_J G x nL Q P cs ss pc lv (.null :: st) := fun H locs ls hH hS hl =>
  lv_castN X.1 X.2.1 hdg (k H locs ls hH hS hl)
end
