/-! PICTURES OF THE HEAP by roles. kr_H: at the address of each role lies its cell, roles lie apart. kr_S: the same with lists (java.util.ArrayList and its row) as one thing. -/
set_option maxRecDepth 100000
/-- an array or an object of a class of the list; or a lambda's object: its site, what it caught -/
abbrev kr_E : Type := va_E ⊕ (Nat × List Value)
def kr_is (G : kr_G) (a : Nat) (e : kr_E) (H : Heap) : Prop := match e with
  | .inl z => va_at (kg_D G) kr_cl (a, z) H
  | .inr z => H[a]? = some ({ cls := kg_L G z.1, slots := z.2.toArray, vm := .none } : Cell)
def kr_H {κ : Type} (G : kr_G) (ad : κ → Nat) (σ : κ → Option kr_E) (H : Heap) : Prop :=
  (∀ (i : κ) (e : kr_E), σ i = some e → kr_is G (ad i) e H ∧ kr_old G (ad i)) ∧ ∀ i j : κ, σ i ≠ none → σ j ≠ none → ad i = ad j → i = j
def kr_up {κ α : Type} [DecidableEq κ] (f : κ → α) (i : κ) (v : α) : κ → α := fun j => if j = i then v else f j
theorem kr_up_s {κ α : Type} [DecidableEq κ] {f : κ → α} {i : κ} {v : α} : kr_up f i v i = v := if_pos rfl
theorem kr_up_n {κ α : Type} [DecidableEq κ] {f : κ → α} {i j : κ} {v : α} (h : j ≠ i) : kr_up f i v j = f j := if_neg h
theorem kr_up_up {κ α : Type} [DecidableEq κ] {f : κ → α} {i : κ} {v w : α} : kr_up (kr_up f i v) i w = kr_up f i w := by
  funext j
  by_cases h : j = i
  · simp [kr_up, h]
  · simp [kr_up, h]
theorem kr_up_id {κ α : Type} [DecidableEq κ] {f : κ → α} {i : κ} {v : α} (h : f i = v) : kr_up f i v = f := by
  funext j
  by_cases e : j = i
  · simp [kr_up, e, h]
  · simp [kr_up, e]
theorem kr_is.kept {G : kr_G} {a : Nat} {e : kr_E} {H H1 : Heap} (h : kr_is G a e H) (hq : H1[a]? = H[a]?) : kr_is G a e H1 := by
  cases e with
  | inl z => exact va_at.kept (q := (a, z)) h hq
  | inr z => exact hq.trans h
theorem kr_is.lt {G : kr_G} {a : Nat} {e : kr_E} {H : Heap} (h : kr_is G a e H) : a < H.size := by
  cases e with
  | inl z => exact va_at.lt (q := (a, z)) h
  | inr z => exact (Array.getElem?_eq_some_iff.mp h).1
section
variable {κ : Type} {G : kr_G} {ad : κ → Nat} {σ : κ → Option kr_E} {H H1 : Heap}
theorem kr_H.lt (h : kr_H G ad σ H) {i : κ} (hi : σ i ≠ none) : ad i < H.size := by
  cases he : σ i with
  | none => exact absurd he hi
  | some e => exact (h.1 i e he).1.lt
theorem kr_H.own (h : kr_H G ad σ H) {i : κ} {e : va_E} (hi : σ i = some (.inl e)) : kr_own G (ad i) e H := h.1 i _ hi
theorem kr_H.put [DecidableEq κ] (h : kr_H G ad σ H) {i : κ} {e0 : kr_E} (e : kr_E) (hi : σ i = some e0) (ha : kr_is G (ad i) e H1) (u : kr_upd H H1 (ad i)) : kr_H G ad (kr_up σ i (some e)) H1 := by
  have hn : ∀ j, kr_up σ i (some e) j ≠ none → σ j ≠ none := by
    intro j hj
    by_cases hji : j = i
    · rw [hji, hi]; exact fun z => by cases z
    · rwa [kr_up_n hji] at hj
  refine ⟨fun j e' hj => ?_, fun j j' h1 h2 e3 => h.2 j j' (hn j h1) (hn j' h2) e3⟩
  by_cases hji : j = i
  · rw [hji, kr_up_s] at hj
    cases hj
    rw [hji]
    exact ⟨ha, (h.1 i _ hi).2⟩
  · rw [kr_up_n hji] at hj
    obtain ⟨h1, h2⟩ := h.1 j e' hj
    refine ⟨h1.kept (u.2 _ fun z => hji (h.2 j i (by rw [hj]; exact fun z => by cases z) (by rw [hi]; exact fun z => by cases z) z)), h2⟩
theorem kr_H.new [DecidableEq κ] (h : kr_H G ad σ H) {i : κ} {ad' : κ → Nat} (e : kr_E) (hi : σ i = none) (had : ∀ j, j ≠ i → ad' j = ad j) (hai : ad' i = H.size) (ha : kr_is G H.size e H1) (ho : kr_old G H.size) (u : kr_new H H1) : kr_H G ad' (kr_up σ i (some e)) H1 := by
  have hlt : ∀ j, j ≠ i → kr_up σ i (some e) j ≠ none → ad' j < H.size := by
    intro j hj h1
    rw [kr_up_n hj] at h1
    rw [had j hj]
    exact h.lt h1
  refine ⟨fun j e' hj => ?_, fun j j' h1 h2 e3 => ?_⟩
  · by_cases hji : j = i
    · rw [hji, kr_up_s] at hj
      cases hj
      rw [hji, hai]
      exact ⟨ha, ho⟩
    · rw [kr_up_n hji] at hj
      obtain ⟨g1, g2⟩ := h.1 j e' hj
      rw [had j hji]
      exact ⟨g1.kept (u.2 _ (h.lt (by rw [hj]; exact fun z => by cases z))), g2⟩
  · by_cases hji : j = i
    · by_cases hji' : j' = i
      · rw [hji, hji']
      · have := hlt j' hji' h2
        rw [hji, hai] at e3
        omega
    · by_cases hji' : j' = i
      · have := hlt j hji h1
        rw [hji', hai] at e3
        omega
      · rw [kr_up_n hji] at h1
        rw [kr_up_n hji'] at h2
        rw [had j hji, had j' hji'] at e3
        exact h.2 j j' h1 h2 e3
/-- other names, fewer cells -/
theorem kr_H.map {ι : Type} {ad' : ι → Nat} {σ' : ι → Option kr_E} (h : kr_H G ad σ H) (f : ι → κ) (h1 : ∀ i e, σ' i = some e → σ (f i) = some e ∧ ad (f i) = ad' i) (h2 : ∀ i j, σ' i ≠ none → σ' j ≠ none → f i = f j → i = j) : kr_H G ad' σ' H := by
  refine ⟨fun i e hi => ?_, fun i j hi hj e3 => ?_⟩
  · obtain ⟨g1, g2⟩ := h1 i e hi
    rw [← g2]
    exact h.1 _ e g1
  · cases ei : σ' i with
    | none => exact absurd ei hi
    | some a =>
      cases ej : σ' j with
      | none => exact absurd ej hj
      | some b =>
        obtain ⟨g1, g2⟩ := h1 i a ei
        obtain ⟨g3, g4⟩ := h1 j b ej
        exact h2 i j hi hj (h.2 _ _ (by rw [g1]; exact fun z => by cases z) (by rw [g3]; exact fun z => by cases z) (by rw [g2, g4]; exact e3))
end
/-! lists -/
abbrev kr_Ro : Type := Nat × Nat
/-- a cell, or a list: its elements, how often it was changed, how many places its row has -/
abbrev kr_AE : Type := kr_E ⊕ (List Nat × Int32 × Nat)
def kg_st (G : kr_G) (C n d : String) : Nat := match (Term.static C n d).eval #[] (kg_s G) none [] (kg_s G) with
  | some (.ref a) => a
  | _ => 0
/-- the row of a list that was never filled -/
abbrev kg_e0 (G : kr_G) : Nat := kg_st G "java/util/ArrayList" "DEFAULTCAPACITY_EMPTY_ELEMENTDATA" "[Ljava/lang/Object;"
def kr_lo (G : kr_G) (bk : Nat) (z : List Nat × Int32 × Nat) : kr_E := .inl (.inr (17, [.int z.2.1, .ref (if z.2.2 = 0 then kg_e0 G else bk), .int (nI z.1.length)]))
def kr_la (G : kr_G) (z : List Nat × Int32 × Nat) : kr_E := .inl (.inl (kg_A G 6, z.2.2, .inr (.inr (.inr (.inr (fun j => z.1[j]?))))))
def kr_exp (G : kr_G) (σ : kr_Ro → Option kr_AE) (bk : kr_Ro → Nat) : kr_Ro ⊕ kr_Ro → Option kr_E
  | .inl i => match σ i with
    | some (.inl e) => some e
    | some (.inr z) => some (kr_lo G (bk i) z)
    | none => none
  | .inr i => match σ i with
    | some (.inr z) => if z.2.2 = 0 then none else some (kr_la G z)
    | _ => none
def kr_fit (σ : kr_Ro → Option kr_AE) : Prop := ∀ (i : kr_Ro) (z : List Nat × Int32 × Nat), σ i = some (.inr z) → z.1.length ≤ z.2.2 ∧ z.2.2 ≤ 1000
def kr_SB (G : kr_G) (ad bk : kr_Ro → Nat) (σ : kr_Ro → Option kr_AE) (H : Heap) : Prop := kr_H G (Sum.elim ad bk) (kr_exp G σ bk) H ∧ kr_fit σ
/-- the things in lists are objects of classes of the list (lists and iterators apart) that have lasting roles -/
def kr_obj (ad : kr_Ro → Nat) (σ : kr_Ro → Option kr_AE) (a : Nat) : Prop := ∃ (j : kr_Ro) (c : Nat) (fs : List Value), σ j = some (.inl (.inl (.inr (c, fs)))) ∧ ad j = a ∧ j.1 ≠ 40 ∧ c < 17
def kr_elem (ad : kr_Ro → Nat) (σ : kr_Ro → Option kr_AE) : Prop := ∀ (i : kr_Ro) (z : List Nat × Int32 × Nat), σ i = some (.inr z) → ∀ a ∈ z.1, kr_obj ad σ a
def kr_S (G : kr_G) (ad : kr_Ro → Nat) (σ : kr_Ro → Option kr_AE) (H : Heap) : Prop := kr_elem ad σ ∧ ∃ bk, kr_SB G ad bk σ H
section
variable {G : kr_G} {ad bk : kr_Ro → Nat} {σ : kr_Ro → Option kr_AE} {H H1 : Heap} {i : kr_Ro} {a : Nat}
theorem kr_exp_c {e : kr_E} (h : σ i = some (.inl e)) : kr_exp G σ bk (.inl i) = some e := by simp [kr_exp, h]
theorem kr_exp_l {z : List Nat × Int32 × Nat} (h : σ i = some (.inr z)) : kr_exp G σ bk (.inl i) = some (kr_lo G (bk i) z) := by simp [kr_exp, h]
theorem kr_exp_a {z : List Nat × Int32 × Nat} (h : σ i = some (.inr z)) (h0 : z.2.2 ≠ 0) : kr_exp G σ bk (.inr i) = some (kr_la G z) := by simp [kr_exp, h, h0]
theorem kr_exp_up {e0 e : kr_E} (h : σ i = some (.inl e0)) : kr_exp G (kr_up σ i (some (.inl e))) bk = kr_up (kr_exp G σ bk) (.inl i) (some e) := by
  funext r
  cases r with
  | inl j =>
    by_cases hj : j = i
    · subst hj
      simp [kr_exp, kr_up]
    · simp [kr_exp, kr_up, hj]
  | inr j =>
    by_cases hj : j = i
    · subst hj
      simp [kr_exp, kr_up, h]
    · simp [kr_exp, kr_up, hj]
theorem kr_exp_up0 {e : kr_E} (h : σ i = none) : kr_exp G (kr_up σ i (some (.inl e))) bk = kr_up (kr_exp G σ bk) (.inl i) (some e) := by
  funext r
  cases r with
  | inl j =>
    by_cases hj : j = i
    · subst hj
      simp [kr_exp, kr_up]
    · simp [kr_exp, kr_up, hj]
  | inr j =>
    by_cases hj : j = i
    · subst hj
      simp [kr_exp, kr_up, h]
    · simp [kr_exp, kr_up, hj]
theorem kr_fit.up (h : kr_fit σ) {e : kr_E} : kr_fit (kr_up σ i (some (.inl e))) := by
  intro j z hj
  by_cases e1 : j = i
  · rw [e1, kr_up_s] at hj
    cases hj
  · rw [kr_up_n e1] at hj
    exact h j z hj
theorem kr_fit.upl (h : kr_fit σ) {w : List Nat × Int32 × Nat} (hw : w.1.length ≤ w.2.2 ∧ w.2.2 ≤ 1000) : kr_fit (kr_up σ i (some (.inr w))) := by
  intro j z hj
  by_cases e1 : j = i
  · rw [e1, kr_up_s] at hj
    cases hj
    exact hw
  · rw [kr_up_n e1] at hj
    exact h j z hj
theorem kr_obj.up (h : kr_obj ad σ a) {e : kr_AE} (he : ∀ (c : Nat) (fs : List Value), σ i = some (.inl (.inl (.inr (c, fs)))) → ∃ fs', e = .inl (.inl (.inr (c, fs')))) : kr_obj ad (kr_up σ i (some e)) a := by
  obtain ⟨j, c, fs, h1, h2, h3, h4⟩ := h
  by_cases hj : j = i
  · subst hj
    obtain ⟨fs', e1⟩ := he c fs h1
    exact ⟨j, c, fs', by rw [kr_up_s, e1], h2, h3, h4⟩
  · exact ⟨j, c, fs, by rw [kr_up_n hj]; exact h1, h2, h3, h4⟩
theorem kr_elem.up (h : kr_elem ad σ) {e : kr_E} (he : ∀ (c : Nat) (fs : List Value), σ i = some (.inl (.inl (.inr (c, fs)))) → ∃ fs', (.inl e : kr_AE) = .inl (.inl (.inr (c, fs')))) : kr_elem ad (kr_up σ i (some (.inl e))) := by
  intro j z hj a ha
  by_cases e1 : j = i
  · rw [e1, kr_up_s] at hj
    cases hj
  · rw [kr_up_n e1] at hj
    exact (h j z hj a ha).up he
theorem kr_elem.upl (h : kr_elem ad σ) {w0 w : List Nat × Int32 × Nat} (hi : σ i = some (.inr w0)) (hw : ∀ a ∈ w.1, kr_obj ad σ a) : kr_elem ad (kr_up σ i (some (.inr w))) := by
  intro j z hj a ha
  have hn : ∀ (c : Nat) (fs : List Value), σ i = some (.inl (.inl (.inr (c, fs)))) → ∃ fs', (.inr w : kr_AE) = .inl (.inl (.inr (c, fs'))) := by
    intro c fs hc
    rw [hi] at hc
    cases hc
  by_cases e1 : j = i
  · rw [e1, kr_up_s] at hj
    cases hj
    exact (hw a ha).up hn
  · rw [kr_up_n e1] at hj
    exact (h j z hj a ha).up hn
theorem kr_S.own (h : kr_S G ad σ H) {e : va_E} (hi : σ i = some (.inl (.inl e))) : kr_own G (ad i) e H := by
  obtain ⟨-, bk, h1, -⟩ := h
  exact h1.own (i := .inl i) (kr_exp_c hi)
theorem kr_S.at (h : kr_S G ad σ H) {e : va_E} (hi : σ i = some (.inl (.inl e))) : va_at (kg_D G) kr_cl (ad i, e) H := (h.own hi).1
/-- a list as an object, for a call on it -/
theorem kr_S.list (h : kr_S G ad σ H) {z : List Nat × Int32 × Nat} (hi : σ i = some (.inr z)) : ∃ fs, va_at (kg_D G) kr_cl (ad i, .inr (17, fs)) H := by
  obtain ⟨-, bk, h1, -⟩ := h
  exact ⟨_, (h1.own (i := .inl i) (kr_exp_l hi)).1⟩
theorem kr_S.rc (h : kr_S G ad σ H) {ci : Nat} {fs : List Value} (hi : σ i = some (.inl (.inl (.inr (ci, fs))))) : ∃ fs, va_at (kg_D G) kr_cl (ad i, .inr (ci, fs)) H := ⟨_, h.at hi⟩
theorem kr_S.put (h : kr_S G ad σ H) {c : Nat} {fs fs' : List Value} (hi : σ i = some (.inl (.inl (.inr (c, fs))))) (ha : va_at (kg_D G) kr_cl (ad i, .inr (c, fs')) H1) (u : kr_upd H H1 (ad i)) : kr_S G ad (kr_up σ i (some (.inl (.inl (.inr (c, fs')))))) H1 := by
  obtain ⟨h0, bk, h1, h2⟩ := h
  refine ⟨h0.up (fun c' fs1 e => ?_), bk, ?_, h2.up⟩
  · rw [hi] at e
    cases e
    exact ⟨fs', rfl⟩
  · rw [kr_exp_up hi]
    exact h1.put (i := .inl i) _ (kr_exp_c hi) ha u
theorem kr_S.puta (h : kr_S G ad σ H) {w w' : ClassId × vp_A} (hi : σ i = some (.inl (.inl (.inl w)))) (ha : va_at (kg_D G) kr_cl (ad i, .inl w') H1) (u : kr_upd H H1 (ad i)) : kr_S G ad (kr_up σ i (some (.inl (.inl (.inl w'))))) H1 := by
  obtain ⟨h0, bk, h1, h2⟩ := h
  refine ⟨h0.up (fun c' fs1 e => ?_), bk, ?_, h2.up⟩
  · rw [hi] at e
    cases e
  · rw [kr_exp_up hi]
    exact h1.put (i := .inl i) _ (kr_exp_c hi) ha u
/-- a role that has no cell gets a new one, at the heap's end -/
theorem kr_S.new (h : kr_S G ad σ H) {ad' : kr_Ro → Nat} {e : kr_E} (hi : σ i = none) (had : ∀ j, j ≠ i → ad' j = ad j) (hai : ad' i = H.size) (ha : kr_is G H.size e H1) (ho : kr_old G H.size) (u : kr_new H H1) : kr_S G ad' (kr_up σ i (some (.inl e))) H1 := by
  obtain ⟨h0, bk, h1, h2⟩ := h
  have h0' : kr_elem ad' σ := by
    intro j z hj b hb
    obtain ⟨k, c, fs, g1, g2, g3, g4⟩ := h0 j z hj b hb
    exact ⟨k, c, fs, g1, by rw [had k (fun q => by rw [q, hi] at g1; cases g1)]; exact g2, g3, g4⟩
  refine ⟨h0'.up (fun c fs q => by rw [hi] at q; cases q), bk, ?_, h2.up⟩
  rw [kr_exp_up0 hi]
  refine h1.new (i := .inl i) e (by simp [kr_exp, hi]) (fun j hj => ?_) hai ha ho u
  cases j with
  | inl j => exact had j fun z => hj (by rw [z])
  | inr j => rfl
theorem kr_exp_some (h : kr_exp G σ bk (.inl i) ≠ none) : σ i ≠ none := by
  intro z
  exact h (by simp [kr_exp, z])
theorem kr_exp_not (h : σ i ≠ none) : kr_exp G σ bk (.inl i) ≠ none := by
  cases e : σ i with
  | none => exact absurd e h
  | some w =>
    cases w with
    | inl e1 => rw [kr_exp_c e]; exact fun z => by cases z
    | inr z1 => rw [kr_exp_l e]; exact fun z => by cases z
theorem kr_S.lt (h : kr_S G ad σ H) (hi : σ i ≠ none) : ad i < H.size := by
  obtain ⟨-, bk, h1, -⟩ := h
  exact h1.lt (i := .inl i) (kr_exp_not hi)
/-- a role whose address would be the next is empty -/
theorem kr_S.free (h : kr_S G ad σ H) (hi : ad i = H.size) : σ i = none := by
  cases e : σ i with
  | none => rfl
  | some w =>
    have := h.lt (i := i) (by rw [e]; exact fun z => by cases z)
    omega
theorem kr_S.inj (h : kr_S G ad σ H) {j : kr_Ro} (hi : σ i ≠ none) (hj : σ j ≠ none) (e : ad i = ad j) : i = j := by
  obtain ⟨-, bk, h1, -⟩ := h
  have := h1.2 (.inl i) (.inl j) (kr_exp_not hi) (kr_exp_not hj) e
  cases this
  rfl
/-- other names, fewer things -/
theorem kr_S.map {ad' : kr_Ro → Nat} {σ' : kr_Ro → Option kr_AE} (h : kr_S G ad σ H) (f : kr_Ro → kr_Ro) (h1 : ∀ i e, σ' i = some e → σ (f i) = some e ∧ ad (f i) = ad' i) (h2 : ∀ i j, σ' i ≠ none → σ' j ≠ none → f i = f j → i = j) (he : kr_elem ad' σ') : kr_S G ad' σ' H := by
  obtain ⟨-, bk, g1, g2⟩ := h
  have key : ∀ i, σ' i ≠ none → σ (f i) = σ' i ∧ ad (f i) = ad' i := by
    intro i hi
    cases e : σ' i with
    | none => exact absurd e hi
    | some w => exact h1 i w e
  have k2 : ∀ i, kr_exp G σ' (fun j => bk (f j)) (.inr i) ≠ none → σ' i ≠ none := by
    intro i hi z
    exact hi (by simp [kr_exp, z])
  refine ⟨he, fun j => bk (f j), g1.map (fun r => match r with | .inl j => .inl (f j) | .inr j => .inr (f j)) ?_ ?_, fun i z hi => ?_⟩
  · intro r e hr
    cases r with
    | inl j =>
      have hj : σ' j ≠ none := kr_exp_some (by rw [hr]; exact fun z => by cases z)
      obtain ⟨a1, a2⟩ := key j hj
      refine ⟨?_, a2⟩
      rw [← hr]
      simp [kr_exp, a1]
    | inr j =>
      have hj : σ' j ≠ none := k2 j (by rw [hr]; exact fun z => by cases z)
      obtain ⟨a1, a2⟩ := key j hj
      refine ⟨?_, rfl⟩
      rw [← hr]
      simp [kr_exp, a1]
  · intro r r' hr hr' e
    cases r with
    | inl j =>
      cases r' with
      | inl j' =>
        have := h2 j j' (kr_exp_some hr) (kr_exp_some hr') (by simpa using e)
        rw [this]
      | inr j' => cases e
    | inr j =>
      cases r' with
      | inl j' => cases e
      | inr j' =>
        have := h2 j j' (k2 j hr) (k2 j' hr') (by simpa using e)
        rw [this]
  · exact g2 (f i) z (h1 i _ hi).1
theorem kr_S.sub {σ' : kr_Ro → Option kr_AE} (h : kr_S G ad σ H) (h1 : ∀ i e, σ' i = some e → σ i = some e) (he : kr_elem ad σ') : kr_S G ad σ' H :=
  h.map id (fun i e he => ⟨h1 i e he, rfl⟩) (fun _ _ _ _ e => e) he
/-- passing things are dropped -/
theorem kr_S.drop {σ' : kr_Ro → Option kr_AE} (h : kr_S G ad σ H) (h1 : ∀ i, i.1 ≠ 40 → σ' i = σ i) (h2 : ∀ i, i.1 = 40 → σ' i = none ∨ σ' i = σ i) : kr_S G ad σ' H := by
  have key : ∀ i e, σ' i = some e → σ i = some e := by
    intro i e hi
    by_cases h4 : i.1 = 40
    · rcases h2 i h4 with q | q
      · rw [q] at hi; cases hi
      · rw [← q]; exact hi
    · rw [← h1 i h4]; exact hi
  refine h.sub key (fun j z hj b hb => ?_)
  obtain ⟨k, c, fs, g1, g2, g3, g4⟩ := h.1 j z (key _ _ hj) b hb
  exact ⟨k, c, fs, by rw [h1 k g3]; exact g1, g2, g3, g4⟩
end
