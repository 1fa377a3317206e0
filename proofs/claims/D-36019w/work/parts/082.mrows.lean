/-! ROWS: taking one out, putting one in -/
set_option maxRecDepth 100000
theorem upd_if {f : Nat → Int32} {k : Nat} {v : Int32} : upd f k v = fun j => if j = k then v else f j := rfl
theorem mF_mF {M : kr_M} {j : Nat} {f f' : Nat → Int32} : mF (mF M j f) j f' = mF M j f' := by
  refine Prod.ext (funext fun a => funext fun b => ?_) rfl
  show (if a = j then f' b else if a = j then f b else M.1 a b) = if a = j then f' b else M.1 a b
  by_cases h : a = j
  · rw [if_pos h, if_pos h]
  · rw [if_neg h, if_neg h, if_neg h]
theorem mF_id {M : kr_M} {j : Nat} : mF M j (mA M j) = M := by
  refine Prod.ext (funext fun a => funext fun b => ?_) rfl
  show (if a = j then M.1 j b else M.1 a b) = M.1 a b
  by_cases h : a = j
  · rw [if_pos h, h]
  · rw [if_neg h]
theorem mS_mF {M : kr_M} {j i : Nat} {f : Nat → Int32} {v : Int32} : mS (mF M j f) j i v = mF M j (fun b => if b = i then v else f b) := by
  refine Prod.ext (funext fun a => funext fun b => ?_) rfl
  show (if a = j ∧ b = i then v else if a = j then f b else M.1 a b) = if a = j then (if b = i then v else f b) else M.1 a b
  by_cases h : a = j
  · rw [if_pos h, if_pos h]
    by_cases h2 : b = i
    · rw [if_pos ⟨h, h2⟩, if_pos h2]
    · rw [if_neg (fun z => h2 z.2), if_neg h2]
  · rw [if_neg (fun z => h z.1), if_neg h, if_neg h]
theorem mS_eq {M : kr_M} {j i : Nat} {v : Int32} : mS M j i v = mF M j (fun b => if b = i then v else mA M j b) := by rw [← mF_upd]; rfl
theorem mF_sw {M : kr_M} {j k : Nat} {f f' : Nat → Int32} (h : j ≠ k) : mF (mF M j f) k f' = mF (mF M k f') j f := by
  refine Prod.ext (funext fun a => funext fun b => ?_) rfl
  show (if a = k then f' b else if a = j then f b else M.1 a b) = if a = j then f b else if a = k then f' b else M.1 a b
  by_cases h1 : a = k
  · rw [if_pos h1, if_neg (fun z => h (z.symm.trans h1)), if_pos h1]
  · rw [if_neg h1, if_neg h1]
/-- one cell of a shift to the left done -/
def shL (r : Nat → Int32) (a n : Nat) : Nat → Int32 := fun j => if a ≤ j ∧ j < a + n then r (j + 1) else r j
theorem shL_0 {r : Nat → Int32} {a : Nat} : shL r a 0 = r := funext fun j => if_neg (by omega)
theorem shL_s {r : Nat → Int32} {a n : Nat} : (fun b => if b = a + n then shL r a n (a + n + 1) else shL r a n b) = shL r a (n + 1) := funext fun j => by
  have e1 : shL r a n (a + n + 1) = r (a + n + 1) := if_neg (by omega)
  rw [e1]
  unfold shL
  by_cases h : j = a + n
  · rw [if_pos h, if_pos (by omega), h]
  · rw [if_neg h]
    by_cases h2 : a ≤ j ∧ j < a + n
    · rw [if_pos h2, if_pos (by omega)]
    · rw [if_neg h2, if_neg (by omega)]
/-- a shift to the right: of the n cells below b -/
def shR (r : Nat → Int32) (b n : Nat) : Nat → Int32 := fun j => if b < j + n ∧ j ≤ b then r (j - 1) else r j
theorem shR_0 {r : Nat → Int32} {b : Nat} : shR r b 0 = r := funext fun j => if_neg (by omega)
theorem shR_s {r : Nat → Int32} {b n : Nat} (h : n < b) : (fun j => if j = b - n then shR r b n (b - n - 1) else shR r b n j) = shR r b (n + 1) := funext fun j => by
  have e1 : shR r b n (b - n - 1) = r (b - n - 1) := if_neg (by omega)
  rw [e1]
  unfold shR
  by_cases h1 : j = b - n
  · rw [if_pos h1, if_pos (by omega), h1]
  · rw [if_neg h1]
    by_cases h2 : b < j + n ∧ j ≤ b
    · rw [if_pos h2, if_pos (by omega)]
    · rw [if_neg h2, if_neg (by omega)]
theorem mR_R.del {L : Nat → List Nat} {m r : Nat → Int32} (h : mR_R L m r) (hl : ∀ j, j < 6 → (L j).length ≤ 6) {k i : Nat} (hk : k < 6) (hi : i < (L k).length) {v : Int32} (hv : v = nI ((L k).length - 1)) : mR_R (fun j => if j = k then (L k).eraseIdx i else L j) (fun j => if j = k then v else m j) (shL r (6 * k + i) ((L k).length - 1 - i)) := fun j hj => by
  obtain ⟨h1, h2⟩ := h j hj
  have l1 := hl j hj
  have l2 := hl k hk
  dsimp only
  by_cases e : j = k
  · subst e
    rw [if_pos rfl, if_pos rfl, hv, List.length_eraseIdx_of_lt hi]
    refine ⟨rfl, fun a q ha => ?_⟩
    rw [List.getElem?_eraseIdx] at ha
    unfold shL
    by_cases hai : a < i
    · rw [if_pos hai] at ha
      rw [if_neg (by omega)]
      exact h2 a q ha
    · rw [if_neg hai] at ha
      have : a + 1 < (L j).length := (List.getElem?_eq_some_iff.mp ha).1
      rw [if_pos (by omega)]
      exact h2 (a + 1) q ha
  · rw [if_neg e, if_neg e]
    refine ⟨h1, fun a q ha => ?_⟩
    have : a < (L j).length := (List.getElem?_eq_some_iff.mp ha).1
    unfold shL
    rw [if_neg (by omega)]
    exact h2 a q ha
theorem mR_R.app {L : Nat → List Nat} {m r : Nat → Int32} (h : mR_R L m r) (hl : ∀ j, j < 6 → (L j).length ≤ 6) {k p : Nat} {v : Int32} (hk : k < 6) (h5 : (L k).length ≤ 5) (hv : v = nI ((L k).length + 1)) : mR_R (fun j => if j = k then L k ++ [p] else L j) (fun j => if j = k then v else m j) (fun b => if b = 6 * k + (L k).length then nI p else r b) := fun j hj => by
  obtain ⟨h1, h2⟩ := h j hj
  have l1 := hl j hj
  dsimp only
  by_cases e : j = k
  · subst e
    rw [if_pos rfl, if_pos rfl, hv, List.length_append]
    refine ⟨rfl, fun a q ha => ?_⟩
    rw [List.getElem?_append] at ha
    by_cases hal : a < (L j).length
    · rw [if_pos hal] at ha
      rw [if_neg (by omega)]
      exact h2 a q ha
    · rw [if_neg hal] at ha
      have : a - (L j).length < 1 := (List.getElem?_eq_some_iff.mp ha).1
      have e0 : a - (L j).length = 0 := by omega
      rw [e0] at ha
      have eq : p = q := Option.some.inj ha
      rw [if_pos (by omega), eq]
  · rw [if_neg e, if_neg e]
    refine ⟨h1, fun a q ha => ?_⟩
    have : a < (L j).length := (List.getElem?_eq_some_iff.mp ha).1
    rw [if_neg (by omega)]
    exact h2 a q ha
theorem mR_R.cons {L : Nat → List Nat} {m r : Nat → Int32} (h : mR_R L m r) (hl : ∀ j, j < 6 → (L j).length ≤ 6) {k p : Nat} {v : Int32} (hk : k < 6) (h5 : (L k).length ≤ 5) (hv : v = nI ((L k).length + 1)) : mR_R (fun j => if j = k then p :: L k else L j) (fun j => if j = k then v else m j) (fun b => if b = 6 * k then nI p else shR r (6 * k + (L k).length) (L k).length b) := fun j hj => by
  obtain ⟨h1, h2⟩ := h j hj
  have l1 := hl j hj
  dsimp only
  by_cases e : j = k
  · subst e
    rw [if_pos rfl, if_pos rfl, hv]
    refine ⟨rfl, fun a q ha => ?_⟩
    cases a with
    | zero =>
      rw [if_pos (by omega), Option.some.inj ha]
    | succ a =>
      have ha' : (L j)[a]? = some q := ha
      have : a < (L j).length := (List.getElem?_eq_some_iff.mp ha').1
      rw [if_neg (by omega)]
      unfold shR
      rw [if_pos (by omega), show 6 * j + (a + 1) - 1 = 6 * j + a by omega]
      exact h2 a q ha'
  · rw [if_neg e, if_neg e]
    refine ⟨h1, fun a q ha => ?_⟩
    have : a < (L j).length := (List.getElem?_eq_some_iff.mp ha).1
    rw [if_neg (by omega)]
    unfold shR
    rw [if_neg (by omega)]
    exact h2 a q ha
theorem sLf_uL {S : kr_St} {a k : Nat} {xs : List Nat} : sL (uL S a k xs) a = fun j => if j = k then xs else sL S a j := funext fun j => by
  show (if a = a ∧ j = k then xs else S.2.2.1 a j) = _
  rw [if_and_l]
  rfl
