/-! CONTRACTS and CALLS over pictures: kr_T .. av P mc ms Po Px: called with av in a heap with P the method returns v with Po v, or throws E with Px E -/
set_option maxRecDepth 100000
def kr_Pc (G : kr_G) (av : List Value) (P : Heap → Prop) : Array Value → State → Prop := va_Pc av (fun U => (kg_s G).WarmedH U.vm ∧ kr_base G U.heap ∧ P U.heap)
def kr_Qc (G : kr_G) (Po : Option Value → Heap → Prop) : Array Value → State → Outcome → State → Prop := fun _ st oc t => (∃ v, oc = .returned v ∧ Po v t.heap) ∧ va_F (kr_old G) st t
def kr_XC (G : kr_G) (Px : String → Heap → Prop) : String → State → State → Prop := fun E st t => Px E t.heap ∧ va_F (kr_old G) st t
def kr_T (G : kr_G) (l : Launch) (y : MethodName) (ws : List Cond) (F L : Nat) (av : List Value) (P : Heap → Prop) (mc ms : Nat) (Po : Option Value → Heap → Prop) (Px : String → Heap → Prop) : Prop :=
  vx_Met l y ws ({ frames := F, cells := mc, slots := ms, locals := L } : Room) (kr_Pc G av P) (kr_Qc G Po) (kr_XC G Px) mc ms (kr_old G)
/-- never throws -/
def kr_no : String → Heap → Prop := fun _ _ => False
def kr_Q (G : kr_G) (x : kr_X) (mc ms : Nat) (Po : Option Value → Heap → Prop) (Px : String → Heap → Prop) : State → Prop := vx_MQ (kx_b x) (kr_Qc G Po) (kr_XC G Px) (kx_a x) (kx_s x) mc ms (kr_old G)
theorem kr_args : ∀ (av : List Value) (o i : Nat) (v : Value), (∀ w ∈ av, w.category = 1) → av[i]? = some v → (o + i, v) ∈ lv_args o av
  | [], _, _, _, _, h => by cases h
  | a :: as, o, 0, v, h1, h => by
    cases h
    exact List.mem_cons_self
  | a :: as, o, i + 1, v, h1, h => by
    have h2 := kr_args as (o + 1) i v (fun w hw => h1 w (List.mem_cons_of_mem _ hw)) h
    have hc : a.category = 1 := h1 a List.mem_cons_self
    show (o + (i + 1), v) ∈ (o, a) :: lv_args (if a.category = 2 then o + 2 else o + 1) as
    rw [if_neg (by rw [hc]; decide)]
    rw [show o + (i + 1) = o + 1 + i by omega]
    exact List.mem_cons_of_mem _ h2
theorem kr_sl : ∀ (av : List Value), (∀ w ∈ av, w.category = 1) → (lg_sl av).length = av.length
  | [], _ => rfl
  | a :: as, h => by
    have hc : a.category = 1 := h a List.mem_cons_self
    have h2 := kr_sl as (fun w hw => h w (List.mem_cons_of_mem _ hw))
    simp only [lg_sl, List.flatMap_cons] at h2 ⊢
    rw [List.length_append, h2, if_neg (by rw [hc]; decide)]
    simp
    omega
theorem kr_entry {av : List Value} {nL : Nat} {lv : List (Option Value)} (h1 : ∀ w ∈ av, w.category = 1) (hn : av.length ≤ nL) (hlv : ∀ (i : Nat) (v : Value), lv[i]? = some (some v) → av[i]? = some v) :
    kr_L ((lg_sl av ++ List.replicate (nL - (lg_sl av).length) Slot.unset).toArray) nL lv := by
  have h := lv_entry av (n := nL) (by rw [kr_sl av h1]; exact hn)
  refine ⟨h.1, h.2.1, fun i v hi => h.2.2 (i, v) ?_⟩
  have := kr_args av 0 i v h1 (hlv i v hi)
  rwa [Nat.zero_add] at this
theorem kr_lv {av : List Value} {n : Nat} (i : Nat) (v : Value) (h : (av.map some ++ List.replicate n none)[i]? = some (some v)) : av[i]? = some v := by
  by_cases hi : i < av.length
  · rw [List.getElem?_append_left (by simpa using hi), List.getElem?_map] at h
    cases ha : av[i]? with
    | none => rw [ha] at h; cases h
    | some w => rw [ha] at h; cases h; rfl
  · rw [List.getElem?_append_right (by simpa using hi)] at h
    have := List.mem_of_getElem? h
    simp at this
/-- a method of a class with machine entries, that has none itself -/
theorem kr_ofF {l : Launch} {y : MethodName} {ws ws' : List Cond} {rm : Room} {Pc : Array Value → State → Prop} {Qc : Array Value → State → Outcome → State → Prop} {XC : String → State → State → Prop} {mc ms : Nat} {free : Addr → Prop} {cc : ByteArray} {maxL : Nat} {ret : Option FieldType}
    (hy : plainFor y = true) (hw : ws = Cond.code y cc maxL ret :: ws')
    (body : ∀ p e s m args below meth c s₁, BodyLoose p l y (headSpec ws rm) cc maxL ret e s m args below meth c s₁ → c.maxLocals = maxL → (∀ x ∈ c.exceptionTable.toList, False) → Pc args s →
      W p l e (headSpec ws rm).room s m args below meth c s.heap [] 0 0 (vx_MQ below Qc XC args s mc ms free) (entryFrame m args maxL)) : vx_Met l y ws rm Pc Qc XC mc ms free := by
  refine MetFree.of_bodySF (code := cc) (maxLocals := maxL) (ret := ret) hy (fun args s m h hn => ?_) (fun p e s m args below meth c s₁ B hml hP _ => ?_)
  · obtain ⟨meth, c, h1, h2, h3, h4, h5, h6, -, -⟩ := Cond.code_spec hn (atoms_spec (ws := ws) h _ (by rw [hw]; exact List.mem_cons_self))
    exact ⟨meth, c, h1, h2, h3, h4, h5, h6⟩
  · have ht : ∀ x ∈ c.exceptionTable.toList, False := by
      obtain ⟨meth9, c9, h1, h2, -, -, -, -, h7, -⟩ := Cond.code_spec B.named (atoms_spec (ws := ws) B.pre _ (by rw [hw]; exact List.mem_cons_self))
      cases Option.some.inj (h1.symm.trans B.method)
      cases Option.some.inj (h2.symm.trans (Stand.of_body B).code)
      intro x hx
      rw [Array.isEmpty_iff.mp h7] at hx
      cases hx
    obtain ⟨t, a1, o, b1, b2, b3⟩ := body p e s m args below meth c s₁ B hml ht hP s₁ (by rw [B.state]; rfl) (Stand.of_body B)
    exact ⟨t, o, a1, b1, b2, b3⟩
/-- a contract out of the walk of the body -/
theorem kr_T.of {G : kr_G} {l : Launch} {y : MethodName} {cc : ByteArray} {nL : Nat} {ret : Option FieldType} {F L mc ms : Nat} {av : List Value} {P : Heap → Prop} {Po : Option Value → Heap → Prop} {Px : String → Heap → Prop} (hy : plainFor y = true) (hF : kr_F G l) (h1 : ∀ w ∈ av, w.category = 1) (hn : av.length ≤ nL)
    (body : ∀ x : kr_X, kx_l x = l → kr_C G x y cc nL ret { frames := F, cells := mc, slots := ms, locals := L } [] → kr_J G x nL (kr_Q G x mc ms Po Px) P 0 0 0 (av.map some ++ List.replicate (nL - av.length) none) []) :
    kr_T G l y (ws_ y cc nL ret) F L av P mc ms Po Px := by
  refine kr_ofF hy rfl ?_
  intro p e s m args below meth c s₁ B hml htab hv
  obtain ⟨rfl, hW, hB, hP⟩ := hv
  have hts := atoms_spec (ws := ws_ y cc nL ret) B.pre
  have hts : ∀ w ∈ lw_all, w.before _ s = true := fun w h => hts w (List.mem_cons_of_mem _ h)
  rw [lg_entry_eq]
  refine body (p, l, e, _, s, m, _, below, meth, c) rfl ⟨B.exec, B.bytes, hml, findClass_of_methodNamed B.named, hts, hW, B.notSynchronized, B.returns, rfl, hB, hF, (name_of_methodNamed B.named B.method).1, ?_, B.named⟩ _ _ _ hP va_S.rf (kr_entry h1 hn (fun i v h => kr_lv i v h))
  show c.exceptionTable.toList = []
  cases hc : c.exceptionTable.toList with
  | nil => rfl
  | cons a as => exact absurd (htab a (by rw [hc]; exact List.mem_cons_self)) id
/-- the same, a method with handlers -/
theorem kr_T.ofH {G : kr_G} {l : Launch} {y : MethodName} {cc : ByteArray} {nL : Nat} {ret : Option FieldType} {hh : List (Nat × Nat × Nat × Nat)} {F L mc ms : Nat} {av : List Value} {P : Heap → Prop} {Po : Option Value → Heap → Prop} {Px : String → Heap → Prop} (hy : plainName y.cls = true) (hF : kr_F G l) (h1 : ∀ w ∈ av, w.category = 1) (hn : av.length ≤ nL)
    (body : ∀ x : kr_X, kx_l x = l → kr_C G x y cc nL ret { frames := F, cells := mc, slots := ms, locals := L } hh → kr_J G x nL (kr_Q G x mc ms Po Px) P 0 0 0 (av.map some ++ List.replicate (nL - av.length) none) []) :
    kr_T G l y (wsW_ y cc nL ret hh) F L av P mc ms Po Px := by
  refine vx_ofWH (hh := hh) hy rfl ?_
  intro p e s m args below meth c s₁ B hml hv
  obtain ⟨rfl, hW, hB, hP⟩ := hv
  have hts0 := atoms_spec (ws := wsW_ y cc nL ret hh) B.pre
  have hts : ∀ w ∈ lw_all, w.before _ s = true := fun w h => hts0 w (List.mem_cons_of_mem _ h)
  rw [lg_entry_eq]
  exact body (p, l, e, _, s, m, _, below, meth, c) rfl ⟨B.exec, B.bytes, hml, findClass_of_methodNamed B.named, hts, hW, B.notSynchronized, B.returns, rfl, hB, hF, (name_of_methodNamed B.named B.method).1, vx_table (x := y) B (hts0 _ List.mem_cons_self), B.named⟩ _ _ _ hP va_S.rf (kr_entry h1 hn (fun i v h => kr_lv i v h))
/-- another start, another end -/
theorem kr_T.weaken {G : kr_G} {l : Launch} {y : MethodName} {ws : List Cond} {F L : Nat} {av : List Value} {P P' : Heap → Prop} {mc ms : Nat} {Po Po' : Option Value → Heap → Prop} {Px Px' : String → Heap → Prop} (h : kr_T G l y ws F L av P mc ms Po Px) (hP : ∀ H, P' H → P H) (hPo : ∀ v H, Po v H → Po' v H) (hPx : ∀ E H, Px E H → Px' E H) : kr_T G l y ws F L av P' mc ms Po' Px' := by
  intro p e ha hc hk s m args below hf happ hpre hK
  obtain ⟨k, o, h1, h2, h3, hQ⟩ := h p e ha hc hk s m args below hf happ ⟨hpre.1, hpre.2.1, hpre.2.2.1, hP _ hpre.2.2.2⟩ hK
  refine ⟨k, o, h1, h2, h3, ?_⟩
  rcases hQ with ⟨⟨⟨v, hv, hp⟩, hF⟩, hL⟩ | ⟨q, hq, E, ce, L, ⟨hx, hF⟩, r⟩
  · exact Or.inl ⟨⟨⟨v, hv, hPo _ _ hp⟩, hF⟩, hL⟩
  · exact Or.inr ⟨q, hq, E, ce, L, ⟨hPx _ _ hx, hF⟩, r⟩
section
variable {G : kr_G} {x : kr_X} {y : MethodName} {cc : ByteArray} {nL : Nat} {ret : Option FieldType} {rm : Room} {hh : List (Nat × Nat × Nat × Nat)} {Q : State → Prop} {P P' : Heap → Prop} {cs ss pc : Nat} {lv lv' : List (Option Value)} {st : List Value}
/-- take out what a picture says -/
theorem kj_open {α : Sort _} {φ : α → Prop} {R : α → Heap → Prop} (k : ∀ a, φ a → kr_J G x nL Q (R a) cs ss pc lv st) : kr_J G x nL Q (fun H => ∃ a, φ a ∧ R a H) cs ss pc lv st := fun H locs ls hP hS hl => by
  obtain ⟨a, h1, h2⟩ := hP
  exact k a h1 H locs ls h2 hS hl
theorem kj_and {φ : Prop} (k : φ → kr_J G x nL Q P cs ss pc lv st) : kr_J G x nL Q (fun H => φ ∧ P H) cs ss pc lv st := fun H locs ls hP hS hl => k hP.1 H locs ls hP.2 hS hl
/-- a method's end -/
theorem kj_iret (X : kr_C G x y cc nL (some .int) rm hh) {mc ms : Nat} {Po : Option Value → Heap → Prop} {Px : String → Heap → Prop} {v : Int32} (hdg : decode cc pc = .ok (.ireturn, 1)) (h1 : cs ≤ mc) (h2 : ss ≤ ms) (hpo : ∀ H, P H → Po (some (.int v)) H) : kr_J G x nL (kr_Q G x mc ms Po Px) P cs ss pc lv [.int v] := fun H locs ls hP hS hl =>
  vx_ret (W.widen h1 h2 (W.iret X.1 X.2.1 X.rt (fun t ht hW => ⟨⟨_, rfl, by rw [ht]; exact hpo H hP⟩, hS.F ht⟩) hS.2.2 hdg X.locks))
theorem kj_zret {ty : FieldType} (X : kr_C G x y cc nL (some ty) rm hh) {mc ms : Nat} {Po : Option Value → Heap → Prop} {Px : String → Heap → Prop} {v : Int32} (hn : narrow ty (.int v) = .int v) (hdg : decode cc pc = .ok (.ireturn, 1)) (h1 : cs ≤ mc) (h2 : ss ≤ ms) (hpo : ∀ H, P H → Po (some (.int v)) H) : kr_J G x nL (kr_Q G x mc ms Po Px) P cs ss pc lv [.int v] := fun H locs ls hP hS hl =>
  vx_ret (W.widen h1 h2 (W.zret X.1 X.2.1 X.rt hn (fun t ht hW => ⟨⟨_, rfl, by rw [ht]; exact hpo H hP⟩, hS.F ht⟩) hS.2.2 hdg X.locks))
theorem kj_lret (X : kr_C G x y cc nL (some .long) rm hh) {mc ms : Nat} {Po : Option Value → Heap → Prop} {Px : String → Heap → Prop} {v : Int64} (hdg : decode cc pc = .ok (.lreturn, 1)) (h1 : cs ≤ mc) (h2 : ss ≤ ms) (hpo : ∀ H, P H → Po (some (.long v)) H) : kr_J G x nL (kr_Q G x mc ms Po Px) P cs ss pc lv [.long v] := fun H locs ls hP hS hl =>
  vx_ret (W.widen h1 h2 (W.lret X.1 X.2.1 X.rt (fun t ht hW => ⟨⟨_, rfl, by rw [ht]; exact hpo H hP⟩, hS.F ht⟩) hS.2.2 hdg X.locks))
theorem kj_fret (X : kr_C G x y cc nL (some .float) rm hh) {mc ms : Nat} {Po : Option Value → Heap → Prop} {Px : String → Heap → Prop} {v : UInt32} (hdg : decode cc pc = .ok (.freturn, 1)) (h1 : cs ≤ mc) (h2 : ss ≤ ms) (hpo : ∀ H, P H → Po (some (.float v)) H) : kr_J G x nL (kr_Q G x mc ms Po Px) P cs ss pc lv [.float v] := fun H locs ls hP hS hl =>
  vx_ret (W.widen h1 h2 (W.fret X.1 X.2.1 X.rt (fun t ht hW => ⟨⟨_, rfl, by rw [ht]; exact hpo H hP⟩, hS.F ht⟩) hS.2.2 hdg X.locks))
theorem kj_dret (X : kr_C G x y cc nL (some .double) rm hh) {mc ms : Nat} {Po : Option Value → Heap → Prop} {Px : String → Heap → Prop} {v : UInt64} (hdg : decode cc pc = .ok (.dreturn, 1)) (h1 : cs ≤ mc) (h2 : ss ≤ ms) (hpo : ∀ H, P H → Po (some (.double v)) H) : kr_J G x nL (kr_Q G x mc ms Po Px) P cs ss pc lv [.double v] := fun H locs ls hP hS hl =>
  vx_ret (W.widen h1 h2 (W.dret X.1 X.2.1 X.rt (fun t ht hW => ⟨⟨_, rfl, by rw [ht]; exact hpo H hP⟩, hS.F ht⟩) hS.2.2 hdg X.locks))
theorem kj_aret {rt : FieldType} (X : kr_C G x y cc nL (some rt) rm hh) {mc ms : Nat} {Po : Option Value → Heap → Prop} {Px : String → Heap → Prop} {v : Value} (hrt : (∃ n, rt = .object n) ∨ ∃ t, rt = .array t) (hv : ∃ r, v = va_rf r) (hdg : decode cc pc = .ok (.areturn, 1)) (h1 : cs ≤ mc) (h2 : ss ≤ ms) (hpo : ∀ H, P H → Po (some v) H) : kr_J G x nL (kr_Q G x mc ms Po Px) P cs ss pc lv [v] := fun H locs ls hP hS hl =>
  vx_ret (W.widen h1 h2 (W.aret X.1 X.2.1 X.rt hrt (by
    obtain ⟨r, rfl⟩ := hv
    cases r with
    | none => exact Or.inl rfl
    | some a => exact Or.inr ⟨a, rfl⟩) (fun t ht hW => ⟨⟨_, rfl, by rw [ht]; exact hpo H hP⟩, hS.F ht⟩) hS.2.2 hdg X.locks))
theorem kj_vret (X : kr_C G x y cc nL none rm hh) {mc ms : Nat} {Po : Option Value → Heap → Prop} {Px : String → Heap → Prop} (hdg : decode cc pc = .ok (.return_, 1)) (h1 : cs ≤ mc) (h2 : ss ≤ ms) (hpo : ∀ H, P H → Po none H) : kr_J G x nL (kr_Q G x mc ms Po Px) P cs ss pc lv [] := fun H locs ls hP hS hl =>
  vx_ret (W.widen h1 h2 (W.vret X.1 X.2.1 X.rt (fun t ht hW => ⟨⟨_, rfl, by rw [ht]; exact hpo H hP⟩, hS.F ht⟩) hS.2.2 hdg X.locks))
/-- a throwable leaves the method -/
theorem kjx_out (X : kr_C G x y cc nL ret rm []) {mc ms : Nat} {Po : Option Value → Heap → Prop} {Px : String → Heap → Prop} {E : String} (h1 : cs ≤ mc) (h2 : ss ≤ ms) (hpx : ∀ H, P H → Px E H) : kr_JX G x nL (kr_Q G x mc ms Po Px) P cs ss pc lv E := fun H locs ls q ce rest hP hS hl hc hv hcl =>
  vx_out (fun z hz => by rw [X.tab] at hz; cases hz) X.locks hc hv hcl (fun t ht _ => ⟨by rw [ht]; exact hpx H hP, hS.F ht⟩) hS.2.2 h1 h2
theorem kjx_no {E : String} : kr_JX G x nL Q (kr_no E) cs ss pc lv E := fun H locs ls q ce rest hP => absurd hP id
theorem kjx_P {E : String} (h : ∀ H, P H → P' H) (k : kr_JX G x nL Q P' cs ss pc lv E) : kr_JX G x nL Q P cs ss pc lv E := fun H locs ls q ce rest hP hS hl hc hv hcl => k H locs ls q ce rest (h H hP) hS hl hc hv hcl
theorem kjx_pure {E : String} {φ : Prop} (h : ∀ H, P H → φ) (k : φ → kr_JX G x nL Q P cs ss pc lv E) : kr_JX G x nL Q P cs ss pc lv E := fun H locs ls q ce rest hP hS hl hc hv hcl => k (h H hP) H locs ls q ce rest hP hS hl hc hv hcl
theorem kj_run {rest : List Value} {mc ms : Nat} {Po : Option Value → Heap → Prop} {Px : String → Heap → Prop} {av : Array Value}
    (hr : ∀ (H : Heap) (locs : List Loc) (ls : Array Slot), P H → va_S (kr_old G) (kx_s x).heap H locs → kr_L ls nL lv → vx_Run x.1 x.2.1 x.2.2.1 x.2.2.2.1 x.2.2.2.2.1 x.2.2.2.2.2.1 x.2.2.2.2.2.2.1 x.2.2.2.2.2.2.2.1 x.2.2.2.2.2.2.2.2.1 x.2.2.2.2.2.2.2.2.2 H locs cs ss mc ms (F0 (kx_m x) pc ls st) rest (kr_Qc G Po av) (kr_XC G Px) (kr_old G))
    (kx : ∀ E, kr_JX G x nL Q (Px E) (cs + mc) (ss + ms) pc lv E) (k : ∀ v, kr_J G x nL Q (Po v) (cs + mc) (ss + ms) (pc + 3) lv (v.toList ++ rest)) : kr_J G x nL Q P cs ss pc lv st := fun H locs ls hP hS hl => by
  intro T hT X
  rcases hr H locs ls hP hS hl T hT X with ⟨v, st₀, t, T', L, h0, X', hL, e1, e2, ⟨⟨v2, hv, hp⟩, hF⟩, st⟩ | ⟨q, st₀, t, T', L, E, ce, h0, X', hL, e1, e2, ⟨hp, hF⟩, hce, hcv, hcl, st⟩
  · cases hv
    obtain ⟨-, -, k3⟩ := vx_keep h0 e1 hS (fun q _ h => h) (fun q h => h) hL hF
    obtain ⟨t2, a1, b1⟩ := k v T'.heap (locs ++ L) ls (by rw [e1]; exact hp) k3 hl T' rfl X'
    exact ⟨t2, st t2 a1, b1⟩
  · obtain ⟨-, -, k3⟩ := vx_keep h0 e1 hS (fun q _ h => h) (fun q h => h) hL hF
    obtain ⟨t2, a1, b1⟩ := kx E T'.heap (locs ++ L) ls q ce rest (by rw [e1]; exact hp) k3 hl (by rw [e1]; exact hce) hcv hcl T' rfl X'
    exact ⟨t2, st.trans a1, b1⟩
theorem kj_run5 {rest : List Value} {mc ms : Nat} {Po : Option Value → Heap → Prop} {Px : String → Heap → Prop} {av : Array Value}
    (hr : ∀ (H : Heap) (locs : List Loc) (ls : Array Slot), P H → va_S (kr_old G) (kx_s x).heap H locs → kr_L ls nL lv → vx_Run5 x.1 x.2.1 x.2.2.1 x.2.2.2.1 x.2.2.2.2.1 x.2.2.2.2.2.1 x.2.2.2.2.2.2.1 x.2.2.2.2.2.2.2.1 x.2.2.2.2.2.2.2.2.1 x.2.2.2.2.2.2.2.2.2 H locs cs ss mc ms (F0 (kx_m x) pc ls st) rest (kr_Qc G Po av) (kr_XC G Px) (kr_old G))
    (kx : ∀ E, kr_JX G x nL Q (Px E) (cs + mc) (ss + ms) pc lv E) (k : ∀ v, kr_J G x nL Q (Po v) (cs + mc) (ss + ms) (pc + 5) lv (v.toList ++ rest)) : kr_J G x nL Q P cs ss pc lv st := fun H locs ls hP hS hl => by
  intro T hT X
  rcases hr H locs ls hP hS hl T hT X with ⟨v, st₀, t, T', L, h0, X', hL, e1, e2, ⟨⟨v2, hv, hp⟩, hF⟩, st⟩ | ⟨q, st₀, t, T', L, E, ce, h0, X', hL, e1, e2, ⟨hp, hF⟩, hce, hcv, hcl, st⟩
  · cases hv
    obtain ⟨-, -, k3⟩ := vx_keep h0 e1 hS (fun q _ h => h) (fun q h => h) hL hF
    obtain ⟨t2, a1, b1⟩ := k v T'.heap (locs ++ L) ls (by rw [e1]; exact hp) k3 hl T' rfl X'
    exact ⟨t2, st t2 a1, b1⟩
  · obtain ⟨-, -, k3⟩ := vx_keep h0 e1 hS (fun q _ h => h) (fun q h => h) hL hF
    obtain ⟨t2, a1, b1⟩ := kx E T'.heap (locs ++ L) ls q ce rest (by rw [e1]; exact hp) k3 hl (by rw [e1]; exact hce) hcv hcl T' rfl X'
    exact ⟨t2, st.trans a1, b1⟩
theorem kr_fixed (X : kr_C G x y cc nL ret rm hh) : CallFix x.1 (kx_m x) (kx_c x) cc nL (kx_s x) (kx_a x) lw_all y.cls := ⟨X.1, X.2.1, X.2.2.1, X.2.2.2.1, X.hts⟩
theorem kr_blind {av : List Value} : FrameBlind (kr_Pc G av P) := fun _ _ _ _ q => q
theorem kr_preS (X : kr_C G x y cc nL ret rm hh) {H : Heap} {locs : List Loc} {av : List Value} (hP : P H) (hS : va_S (kr_old G) (kx_s x).heap H locs) : PreS (kx_s x) H (kr_Pc G av P) av :=
  ⟨kr_blind, fun U hU hW => ⟨rfl, State.WarmedH.trans X.warm hW, by
    rw [hU]
    exact ⟨Nat.le_trans X.base.1 hS.1, fun q hq => (hS.2.1 q (Nat.lt_of_lt_of_le hq X.base.1) (fun z => absurd z (Nat.not_le.mpr hq))).trans (X.base.2 q hq)⟩, by rw [hU]; exact hP⟩⟩
theorem kr_preV (X : kr_C G x y cc nL ret rm hh) {H : Heap} {locs : List Loc} {b ci N : Nat} {C : String} {T : u_T} {As : List Value} (hc : kr_cl[ci]? = some (C, T, N)) (hrecv : ∃ fs, va_at (kg_D G) kr_cl (b, .inr (ci, fs)) H) (hP : P H) (hS : va_S (kr_old G) (kx_s x).heap H locs) : PreV (kx_s x) H C b (kr_Pc G (.ref b :: As) P) As :=
  ⟨kr_blind, by
    obtain ⟨fs, hrecv⟩ := hrecv
    exact va_recv X.K (kr_one hrecv) hc (q0 := 0) rfl, (kr_preS X hP hS).2⟩
/-- invokevirtual -/
theorem kj_callV (X : kr_C G x y cc nL ret rm hh) {z : MethodName} {bytes : ByteArray} {maxL F L mc ms index ci N b : Nat} {ret' : Option FieldType} {C : String} {T : u_T} {As rest : List Value} {Po : Option Value → Heap → Prop} {Px : String → Heap → Prop} (n : Nat)
    (hT : kr_T G (kx_l x) z (ws_ z bytes maxL ret') F L (.ref b :: As) P mc ms Po Px) (hw : GoodIn lw_all (wsV y.cls index C z (ws_ z bytes maxL ret'))) (hd : z.cls = C ∧ z.cls ≠ "java/lang/invoke/MethodHandle" ∧ z.cls ≠ "java/lang/invoke/VarHandle" ∧ (parseMethodDescriptor z.desc).map (fun d => d.parameters.length) = some n) (hdg : decode cc pc = .ok (.invokevirtual index, 3))
    (hst : st = As.reverse ++ .ref b :: rest) (hn : As.length = n) (hlow : (rest.map fun v => v.category).sum ≤ 8) (hR : F + 1 ≤ rm.frames ∧ 8 + (maxL + 11) + L ≤ rm.locals) (hroom : cs + mc ≤ rm.cells ∧ ss + ms ≤ rm.slots)
    (hc : kr_cl[ci]? = some (C, T, N)) (hrecv : ∀ H, P H → ∃ fs, va_at (kg_D G) kr_cl (b, .inr (ci, fs)) H)
    (kx : ∀ E, kr_JX G x nL Q (Px E) (cs + mc) (ss + ms) pc lv E) (k : ∀ v, kr_J G x nL Q (Po v) (cs + mc) (ss + ms) (pc + 3) lv (v.toList ++ rest)) : kr_J G x nL Q P cs ss pc lv st := by
  subst hst
  have e := X.room
  exact kj_run (fun H locs ls hP hS hl => vx_runV (kr_fixed X) hT (cwV n X.hts hw rfl rfl rfl hd (by show F + 1 ≤ (kx_R x).frames ∧ 8 + (maxL + 11) + L ≤ (kx_R x).locals; rw [e]; exact hR)) (kr_preV X hc (hrecv H hP) hP hS) rfl hn hl.1 rfl (lv_room hlow) hdg (by show cs + mc ≤ (kx_R x).cells ∧ ss + ms ≤ (kx_R x).slots; rw [e]; exact hroom)) kx k
/-- invokestatic -/
theorem kj_callS (X : kr_C G x y cc nL ret rm hh) {z : MethodName} {bytes : ByteArray} {maxL F L mc ms index : Nat} {ret' : Option FieldType} {As rest : List Value} {Po : Option Value → Heap → Prop} {Px : String → Heap → Prop} (n : Nat)
    (hT : kr_T G (kx_l x) z (ws_ z bytes maxL ret') F L As P mc ms Po Px) (hw : GoodIn lw_all (va_wsS y.cls index z (ws_ z bytes maxL ret'))) (hd : z.cls ≠ "java/lang/invoke/MethodHandle" ∧ z.cls ≠ "java/lang/invoke/VarHandle" ∧ (parseMethodDescriptor z.desc).map (fun d => d.parameters.length) = some n) (hdg : decode cc pc = .ok (.invokestatic index, 3))
    (hst : st = As.reverse ++ rest) (hn : As.length = n) (hlow : (rest.map fun v => v.category).sum ≤ 8) (hR : F + 1 ≤ rm.frames ∧ 8 + (maxL + 11) + L ≤ rm.locals) (hroom : cs + mc ≤ rm.cells ∧ ss + ms ≤ rm.slots)
    (kx : ∀ E, kr_JX G x nL Q (Px E) (cs + mc) (ss + ms) pc lv E) (k : ∀ v, kr_J G x nL Q (Po v) (cs + mc) (ss + ms) (pc + 3) lv (v.toList ++ rest)) : kr_J G x nL Q P cs ss pc lv st := by
  subst hst
  have e := X.room
  exact kj_run (fun H locs ls hP hS hl => vx_runS (kr_fixed X) hT (va_cwS n X.hts hw rfl rfl rfl hd (by show F + 1 ≤ (kx_R x).frames ∧ 8 + (maxL + 11) + L ≤ (kx_R x).locals; rw [e]; exact hR)) (kr_preS X hP hS) rfl hn hl.1 rfl (lv_room hlow) hdg (by show cs + mc ≤ (kx_R x).cells ∧ ss + ms ≤ (kx_R x).slots; rw [e]; exact hroom)) kx k
/-- invokestatic of a method with handlers -/
theorem kj_callSH (X : kr_C G x y cc nL ret rm hh) {z : MethodName} {bytes : ByteArray} {maxL F L mc ms index : Nat} {ret' : Option FieldType} {hz : List (Nat × Nat × Nat × Nat)} {As rest : List Value} {Po : Option Value → Heap → Prop} {Px : String → Heap → Prop} (n : Nat)
    (hT : kr_T G (kx_l x) z (wsW_ z bytes maxL ret' hz) F L As P mc ms Po Px) (hw : GoodIn lw_all (va_wsS y.cls index z (wsW_ z bytes maxL ret' hz))) (hd : z.cls ≠ "java/lang/invoke/MethodHandle" ∧ z.cls ≠ "java/lang/invoke/VarHandle" ∧ (parseMethodDescriptor z.desc).map (fun d => d.parameters.length) = some n) (hdg : decode cc pc = .ok (.invokestatic index, 3))
    (hst : st = As.reverse ++ rest) (hn : As.length = n) (hlow : (rest.map fun v => v.category).sum ≤ 8) (hR : F + 1 ≤ rm.frames ∧ 8 + (maxL + 11) + L ≤ rm.locals) (hroom : cs + mc ≤ rm.cells ∧ ss + ms ≤ rm.slots)
    (kx : ∀ E, kr_JX G x nL Q (Px E) (cs + mc) (ss + ms) pc lv E) (k : ∀ v, kr_J G x nL Q (Po v) (cs + mc) (ss + ms) (pc + 3) lv (v.toList ++ rest)) : kr_J G x nL Q P cs ss pc lv st := by
  subst hst
  have e := X.room
  exact kj_run (fun H locs ls hP hS hl => vx_runSX (kr_fixed X) hT (vx_cwSW n X.hts hw rfl rfl rfl hd (by show F + 1 ≤ (kx_R x).frames ∧ 8 + (maxL + 11) + L ≤ (kx_R x).locals; rw [e]; exact hR)) (kr_preS X hP hS) rfl hn hl.1 rfl (lv_room hlow) hdg (by show cs + mc ≤ (kx_R x).cells ∧ ss + ms ≤ (kx_R x).slots; rw [e]; exact hroom)) kx k
/-- a constructor -/
theorem kj_callI (X : kr_C G x y cc nL ret rm hh) {z : MethodName} {bytes : ByteArray} {maxL F L mc ms index b : Nat} {As rest : List Value} {Po : Option Value → Heap → Prop} {Px : String → Heap → Prop} (n : Nat)
    (hT : kr_T G (kx_l x) z (ws_ z bytes maxL none) F L (.ref b :: As) P mc ms Po Px) (hw : Cond.code z bytes maxL none ∈ lw_all) (hini : Cond.initialized z.cls ∈ lw_all) (hlink : Cond.methodLink y.cls index z ∈ lw_all) (hinst : Cond.instanceMethod z ∈ lw_all) (hz : z.name = "<init>") (hd : z.cls ≠ "java/lang/invoke/MethodHandle" ∧ z.cls ≠ "java/lang/invoke/VarHandle" ∧ (parseMethodDescriptor z.desc).map (fun d => d.parameters.length) = some n) (hdg : decode cc pc = .ok (.invokespecial index, 3))
    (hst : st = As.reverse ++ .ref b :: rest) (hn : As.length = n) (hlow : (rest.map fun v => v.category).sum ≤ 8) (hR : F + 1 ≤ rm.frames ∧ 8 + (maxL + 11) + L ≤ rm.locals) (hroom : cs + mc ≤ rm.cells ∧ ss + ms ≤ rm.slots)
    (kx : ∀ E, kr_JX G x nL Q (Px E) (cs + mc) (ss + ms) pc lv E) (k : ∀ v, kr_J G x nL Q (Po v) (cs + mc) (ss + ms) (pc + 3) lv (v.toList ++ rest)) : kr_J G x nL Q P cs ss pc lv st := by
  subst hst
  have e := X.room
  exact kj_run (fun H locs ls hP hS hl => vx_runI (kr_fixed X) hT (cwI n X.hts (lw_meth hw) rfl rfl rfl (X.hts _ hini) (X.hts _ hlink) (X.hts _ hinst) hz hd (by show F + 1 ≤ (kx_R x).frames ∧ 8 + (maxL + 11) + L ≤ (kx_R x).locals; rw [e]; exact hR)) (kr_preS X hP hS) rfl hn hl.1 rfl (lv_room hlow) hdg (by show cs + mc ≤ (kx_R x).cells ∧ ss + ms ≤ (kx_R x).slots; rw [e]; exact hroom)) kx k
/-- a nest mate's private constructor -/
theorem kj_callIN (X : kr_C G x y cc nL ret rm hh) {z : MethodName} {host : String} {bytes : ByteArray} {maxL F L mc ms index b : Nat} {As rest : List Value} {Po : Option Value → Heap → Prop} {Px : String → Heap → Prop} (n : Nat)
    (hT : kr_T G (kx_l x) z (ws_ z bytes maxL none) F L (.ref b :: As) P mc ms Po Px) (hw : Cond.code z bytes maxL none ∈ lw_all) (hini : Cond.initialized z.cls ∈ lw_all) (hlink : Cond.methodLinkNest y.cls index z host ∈ lw_tbl) (hinst : Cond.instanceMethod z ∈ lw_all) (hz : z.name = "<init>") (hd : z.cls ≠ "java/lang/invoke/MethodHandle" ∧ z.cls ≠ "java/lang/invoke/VarHandle" ∧ (parseMethodDescriptor z.desc).map (fun d => d.parameters.length) = some n) (hdg : decode cc pc = .ok (.invokespecial index, 3))
    (hst : st = As.reverse ++ .ref b :: rest) (hn : As.length = n) (hlow : (rest.map fun v => v.category).sum ≤ 8) (hR : F + 1 ≤ rm.frames ∧ 8 + (maxL + 11) + L ≤ rm.locals) (hroom : cs + mc ≤ rm.cells ∧ ss + ms ≤ rm.slots)
    (kx : ∀ E, kr_JX G x nL Q (Px E) (cs + mc) (ss + ms) pc lv E) (k : ∀ v, kr_J G x nL Q (Po v) (cs + mc) (ss + ms) (pc + 3) lv (v.toList ++ rest)) : kr_J G x nL Q P cs ss pc lv st := by
  subst hst
  have e := X.room
  exact kj_run (fun H locs ls hP hS hl => vx_runIN (kr_fixed X) hT ⟨va_cnB n X.hts (lw_meth hw) rfl rfl rfl (X.nestM hlink) (X.hts _ hini) hd (by show F + 1 ≤ (kx_R x).frames ∧ 8 + (maxL + 11) + L ≤ (kx_R x).locals; rw [e]; exact hR), hz, X.hts _ hinst⟩ (kr_preS X hP hS) rfl hn hl.1 rfl (lv_room hlow) hdg (by show cs + mc ≤ (kx_R x).cells ∧ ss + ms ≤ (kx_R x).slots; rw [e]; exact hroom)) kx k
/-- a nest mate's private method -/
theorem kj_callVN (X : kr_C G x y cc nL ret rm hh) {z : MethodName} {host : String} {bytes : ByteArray} {maxL F L mc ms index ci N b : Nat} {ret' : Option FieldType} {C : String} {T : u_T} {As rest : List Value} {Po : Option Value → Heap → Prop} {Px : String → Heap → Prop} (n : Nat)
    (hT : kr_T G (kx_l x) z (ws_ z bytes maxL ret') F L (.ref b :: As) P mc ms Po Px) (hw : Cond.code z bytes maxL ret' ∈ lw_all) (hini : Cond.initialized z.cls ∈ lw_all) (hlink : Cond.methodLinkNest y.cls index z host ∈ lw_tbl) (hinst : Cond.instanceMethod z ∈ lw_all) (hsel : Cond.selects C z z ∈ lw_all) (hd : z.cls ≠ "java/lang/invoke/MethodHandle" ∧ z.cls ≠ "java/lang/invoke/VarHandle" ∧ (parseMethodDescriptor z.desc).map (fun d => d.parameters.length) = some n) (hdg : decode cc pc = .ok (.invokevirtual index, 3))
    (hst : st = As.reverse ++ .ref b :: rest) (hn : As.length = n) (hlow : (rest.map fun v => v.category).sum ≤ 8) (hR : F + 1 ≤ rm.frames ∧ 8 + (maxL + 11) + L ≤ rm.locals) (hroom : cs + mc ≤ rm.cells ∧ ss + ms ≤ rm.slots)
    (hc : kr_cl[ci]? = some (C, T, N)) (hrecv : ∀ H, P H → ∃ fs, va_at (kg_D G) kr_cl (b, .inr (ci, fs)) H)
    (kx : ∀ E, kr_JX G x nL Q (Px E) (cs + mc) (ss + ms) pc lv E) (k : ∀ v, kr_J G x nL Q (Po v) (cs + mc) (ss + ms) (pc + 3) lv (v.toList ++ rest)) : kr_J G x nL Q P cs ss pc lv st := by
  subst hst
  have e := X.room
  exact kj_run (fun H locs ls hP hS hl => vx_runVN (kr_fixed X) hT ⟨va_cnB n X.hts (lw_meth hw) rfl rfl rfl (X.nestM hlink) (X.hts _ hini) hd (by show F + 1 ≤ (kx_R x).frames ∧ 8 + (maxL + 11) + L ≤ (kx_R x).locals; rw [e]; exact hR), X.hts _ hinst, X.hts _ hsel⟩ (kr_preV X hc (hrecv H hP) hP hS) rfl hn hl.1 rfl (lv_room hlow) hdg (by show cs + mc ≤ (kx_R x).cells ∧ ss + ms ≤ (kx_R x).slots; rw [e]; exact hroom)) kx k
/-- invokeinterface -/
theorem kj_callF (X : kr_C G x y cc nL ret rm hh) {w z : MethodName} {bytes : ByteArray} {maxL F L mc ms index count ci N b : Nat} {ret' : Option FieldType} {C : String} {T : u_T} {As rest : List Value} {Po : Option Value → Heap → Prop} {Px : String → Heap → Prop} (n : Nat)
    (hT : kr_T G (kx_l x) z (ws_ z bytes maxL ret') F L (.ref b :: As) P mc ms Po Px) (hlink : Cond.methodLink y.cls index w ∈ lw_all) (hsel : Cond.selects C w z ∈ lw_all) (hinst : Cond.instanceMethod z ∈ lw_all) (hini : Cond.initialized z.cls ∈ lw_all) (hw : Cond.code z bytes maxL ret' ∈ lw_all)
    (h1 : Cond.declares w ∈ lw_tbl) (h2 : Cond.interfaceMethod w.cls w.cls w.name w.desc ∈ lw_tbl) (h3 : Cond.publicMethod z ∈ lw_tbl) (h4 : Cond.unhidden C w.name w.desc ∈ lw_tbl) (h5 : Cond.castable C w.cls ∈ lw_tbl)
    (hd : w.cls ≠ "java/lang/invoke/MethodHandle" ∧ w.cls ≠ "java/lang/invoke/VarHandle" ∧ (parseMethodDescriptor w.desc).map (fun d => d.parameters.length) = some n) (hdg : decode cc pc = .ok (.invokeinterface index count, 5))
    (hst : st = As.reverse ++ .ref b :: rest) (hn : As.length = n) (hlow : (rest.map fun v => v.category).sum ≤ 8) (hR : F + 1 ≤ rm.frames ∧ 8 + (maxL + 11) + L ≤ rm.locals) (hroom : cs + mc ≤ rm.cells ∧ ss + ms ≤ rm.slots)
    (hc : kr_cl[ci]? = some (C, T, N)) (hrecv : ∀ H, P H → ∃ fs, va_at (kg_D G) kr_cl (b, .inr (ci, fs)) H)
    (kx : ∀ E, kr_JX G x nL Q (Px E) (cs + mc) (ss + ms) pc lv E) (k : ∀ v, kr_J G x nL Q (Po v) (cs + mc) (ss + ms) (pc + 5) lv (v.toList ++ rest)) : kr_J G x nL Q P cs ss pc lv st := by
  subst hst
  have e := X.room
  have hG : GoodIn lw_all (va_wsF y.cls index C w z (ws_ z bytes maxL ret')) := by
    refine lw_app ?_ (lw_meth hw)
    intro u hu
    simp only [List.mem_cons, List.not_mem_nil, or_false] at hu
    rcases hu with q | q | q | q
    · rw [q]; exact hlink
    · rw [q]; exact hsel
    · rw [q]; exact hinst
    · rw [q]; exact hini
  exact kj_run5 (fun H locs ls hP hS hl => vx_runF (X.K.1 ci _ hc).2 (kr_fixed X) hT (va_cwF n X.hts hG rfl rfl rfl (X.face h1 h2 h3 h4 h5 ⟨hd.1, hd.2.1⟩) hd (by show F + 1 ≤ (kx_R x).frames ∧ 8 + (maxL + 11) + L ≤ (kx_R x).locals; rw [e]; exact hR)) (kr_preV X hc (hrecv H hP) hP hS) rfl hn hl.1 rfl (lv_room hlow) hdg (by show cs + mc ≤ (kx_R x).cells ∧ ss + ms ≤ (kx_R x).slots; rw [e]; exact hroom)) kx k
end
