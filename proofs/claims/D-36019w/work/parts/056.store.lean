/-! A STORE THAT FAILS: ArrayStoreException -/
set_option maxRecDepth 100000
section
variable {p : Program} {l : Launch} {e : Env} {R : Room} {s : State} {m : MethodId} {args : Array Value} {below : List Frame} {meth : Method} {c : Code} {T : State} {locs : List Loc} {cells slots : Nat}
theorem kr_aastoreBad (X : Stand p l e R s m args below meth c T locs cells slots) (hexec : p.tables.exec = Jvm.exec) {a v : Nat} {c1 cv : Cell} {k kv kc : Class} {comp : ClassId} {t : FieldType} {i : Int32} (hcell : T.heap[a]? = some c1) (hobj : ∀ x, c1.vm ≠ .statics x) (hk : s.vm.classes[c1.cls]? = some k) (hkind : k.kind = .array comp t) (hi : ¬ (i < 0 ∨ c1.slots.size ≤ i.toNatClampNeg))
    (hv : T.heap[v]? = some cv) (hvobj : ∀ x, cv.vm ≠ .statics x) (hkv : s.vm.classes[cv.cls]? = some kv) (hkc : s.vm.classes[comp]? = some kc) (hno : s.vm.assignable cv.cls comp = false)
    {g : JFrame} (hg : g.method = m) {rest : List Value} (hstack : g.stack = .ref v :: .int i :: .ref a :: rest) (hdg : decode c.code g.pc = .ok (.aastore, 1)) :
    ∀ target, Steps p.tables e below ((T.setTop { g with stack := rest }).pushFrame (.throwNew "java/lang/ArrayStoreException" (some kv.shown) none)) target → Steps p.tables e below (T.setTop g) target := by
  intro target hrest
  have hA := X.warmed.alike
  obtain ⟨k', hk', he⟩ := hA.2.2 _ _ hk
  obtain ⟨kv', hkv', hev⟩ := hA.2.2 _ _ hkv
  obtain ⟨kc', hkc', hec⟩ := hA.2.2 _ _ hkc
  have hkind' : k'.kind = .array comp t := by rw [he]; exact hkind
  have hsh : kv'.shown = kv.shown := by rw [hev]; rfl
  have hno' : T.vm.assignable cv.cls comp = false := by rw [hA.assignable]; exact hno
  have harr : T.isArray c1 := ⟨hobj, k', hk', comp, t, hkind'⟩
  have hlt : i.toNatClampNeg < c1.slots.size := Nat.not_le.mp fun z => hi (Or.inr z)
  have hi0 : ¬ i < 0 := fun z => hi (Or.inl z)
  subst hg
  jvm_step X.here [hexec, hdg, aastore.sem, hstack, hcell, hobj, hk', hkind', hi0, hlt, Nat.not_le.mpr hlt, harr, hv, hvobj, hkv', hkc', hno', hsh]
  exact hrest
end
