/-! THE RELATION between the component's abstract state and the model's rows. (printed by tools/gen_mrel.py) -/
set_option maxRecDepth 100000
def mR_L (L : Nat → List Nat) (K : Nat → Nat) (I : Nat → Int32) (m k n : Nat → Int32) (b : Nat) : Prop := ∀ i, i < b → m i = nI (L i).length ∧ ∀ j q, (L i)[j]? = some q → k (20 * i + j) = fLet (K q) ∧ n (20 * i + j) = I q
def mR_R (L : Nat → List Nat) (m r : Nat → Int32) : Prop := ∀ i, i < 6 → m i = nI (L i).length ∧ ∀ j q, (L i)[j]? = some q → r (6 * i + j) = nI q
def mR_N (f : Nat → Nat) (r : Nat → Int32) (b : Nat) : Prop := ∀ i, i < b → r i = nI (f i)
def mR_I (f : Nat → Int32) (r : Nat → Int32) (b : Nat) : Prop := ∀ i, i < b → r i = f i
def mR_P (f : Nat → Nat) (r : Nat → Int32) (b : Nat) : Prop := ∀ i, i < b → r i = nI (f i) - 1
def mR_A (h f : Nat → Nat) (r : Nat → Int32) : Prop := ∀ i, i < 6 → h i = 1 → r i = nI (f i) - 1
def mR_W (L : Nat → List Nat) (r : Nat → Int32) : Prop := ∀ p, p < 6 → ((∀ d, d < 6 → p ∉ L d) → r p = -1) ∧ ∀ d, d < 6 → p ∈ L d → r p = nI d
def mR_S (f : Nat → Nat → Int32) (r : Nat → Int32) : Prop := ∀ v, v < 10 → ∀ s, s < 100 → r (100 * v + s) = f v s
def mR_B (f : Nat → Nat → Nat) (r : Nat → Int32) : Prop := ∀ v, v < 10 → ∀ s, s < 100 → r (100 * v + s) = nI (f v s)
def MRel (S : kr_St) (t : Int32) (M : kr_M) : Prop := (mR_L (sL S 0) (sN S 12) (sI S 6) (mA M 0) (mA M 1) (mA M 2) 8) ∧ (mR_L (sL S 4) (sN S 12) (sI S 6) (mA M 3) (mA M 4) (mA M 5) 24) ∧ (mR_N (sN S 11) (mA M 6) 24) ∧ (mR_I (sI S 5) (mA M 7) 24) ∧ (mR_N (sN S 3) (mA M 8) 6) ∧ (mR_N (sN S 6) (mA M 9) 6) ∧ (mR_N (sN S 7) (mA M 10) 6) ∧ (mR_N (sN S 5) (mA M 11) 6) ∧ (mR_A (sN S 15) (sN S 4) (mA M 12)) ∧ (mR_I (sI S 1) (mA M 13) 6) ∧ (mR_I (sI S 2) (mA M 14) 6) ∧ (mR_W (sL S 3) (mA M 15)) ∧ (mR_I (sI S 3) (mA M 16) 6) ∧ (mR_I (sI S 4) (mA M 17) 6) ∧ (mR_R (sL S 2) (mA M 19) (mA M 18)) ∧ (mR_P (sN S 9) (mA M 20) 6) ∧ (mR_R (sL S 3) (mA M 22) (mA M 21)) ∧ (mR_S (fun v => sI S (2 * v + 100)) (mA M 23)) ∧ (mR_P (sN S 10) (mA M 24) 10) ∧ (mR_B (fun v => sN S (v + 100)) (mA M 25)) ∧ (mA M 26 0 = nI (sN S 0 0)) ∧ (mA M 27 0 = nI (sN S 1 0)) ∧ (mA M 28 0 = nI (sN S 2 0)) ∧ (mA M 29 0 = sI S 0 0) ∧ (mA M 30 0 = t) ∧ (mD M = sD S) ∧ (∀ f q, q ∈ sL S 4 f → sN S 12 q ≠ 0)
section
variable {S : kr_St} {t : Int32} {M : kr_M}
theorem MRel.cL (h : MRel S t M) : mR_L (sL S 0) (sN S 12) (sI S 6) (mA M 0) (mA M 1) (mA M 2) 8 := h.1
theorem MRel.cF (h : MRel S t M) : mR_L (sL S 4) (sN S 12) (sI S 6) (mA M 3) (mA M 4) (mA M 5) 24 := h.2.1
theorem MRel.c6 (h : MRel S t M) : mR_N (sN S 11) (mA M 6) 24 := h.2.2.1
theorem MRel.c7 (h : MRel S t M) : mR_I (sI S 5) (mA M 7) 24 := h.2.2.2.1
theorem MRel.c8 (h : MRel S t M) : mR_N (sN S 3) (mA M 8) 6 := h.2.2.2.2.1
theorem MRel.c9 (h : MRel S t M) : mR_N (sN S 6) (mA M 9) 6 := h.2.2.2.2.2.1
theorem MRel.c10 (h : MRel S t M) : mR_N (sN S 7) (mA M 10) 6 := h.2.2.2.2.2.2.1
theorem MRel.c11 (h : MRel S t M) : mR_N (sN S 5) (mA M 11) 6 := h.2.2.2.2.2.2.2.1
theorem MRel.c12 (h : MRel S t M) : mR_A (sN S 15) (sN S 4) (mA M 12) := h.2.2.2.2.2.2.2.2.1
theorem MRel.c13 (h : MRel S t M) : mR_I (sI S 1) (mA M 13) 6 := h.2.2.2.2.2.2.2.2.2.1
theorem MRel.c14 (h : MRel S t M) : mR_I (sI S 2) (mA M 14) 6 := h.2.2.2.2.2.2.2.2.2.2.1
theorem MRel.c15 (h : MRel S t M) : mR_W (sL S 3) (mA M 15) := h.2.2.2.2.2.2.2.2.2.2.2.1
theorem MRel.c16 (h : MRel S t M) : mR_I (sI S 3) (mA M 16) 6 := h.2.2.2.2.2.2.2.2.2.2.2.2.1
theorem MRel.c17 (h : MRel S t M) : mR_I (sI S 4) (mA M 17) 6 := h.2.2.2.2.2.2.2.2.2.2.2.2.2.1
theorem MRel.cP (h : MRel S t M) : mR_R (sL S 2) (mA M 19) (mA M 18) := h.2.2.2.2.2.2.2.2.2.2.2.2.2.2.1
theorem MRel.c20 (h : MRel S t M) : mR_P (sN S 9) (mA M 20) 6 := h.2.2.2.2.2.2.2.2.2.2.2.2.2.2.2.1
theorem MRel.cQ (h : MRel S t M) : mR_R (sL S 3) (mA M 22) (mA M 21) := h.2.2.2.2.2.2.2.2.2.2.2.2.2.2.2.2.1
theorem MRel.c23 (h : MRel S t M) : mR_S (fun v => sI S (2 * v + 100)) (mA M 23) := h.2.2.2.2.2.2.2.2.2.2.2.2.2.2.2.2.2.1
theorem MRel.c24 (h : MRel S t M) : mR_P (sN S 10) (mA M 24) 10 := h.2.2.2.2.2.2.2.2.2.2.2.2.2.2.2.2.2.2.1
theorem MRel.c25 (h : MRel S t M) : mR_B (fun v => sN S (v + 100)) (mA M 25) := h.2.2.2.2.2.2.2.2.2.2.2.2.2.2.2.2.2.2.2.1
theorem MRel.c26 (h : MRel S t M) : mA M 26 0 = nI (sN S 0 0) := h.2.2.2.2.2.2.2.2.2.2.2.2.2.2.2.2.2.2.2.2.1
theorem MRel.c27 (h : MRel S t M) : mA M 27 0 = nI (sN S 1 0) := h.2.2.2.2.2.2.2.2.2.2.2.2.2.2.2.2.2.2.2.2.2.1
theorem MRel.c28 (h : MRel S t M) : mA M 28 0 = nI (sN S 2 0) := h.2.2.2.2.2.2.2.2.2.2.2.2.2.2.2.2.2.2.2.2.2.2.1
theorem MRel.c29 (h : MRel S t M) : mA M 29 0 = sI S 0 0 := h.2.2.2.2.2.2.2.2.2.2.2.2.2.2.2.2.2.2.2.2.2.2.2.1
theorem MRel.c30 (h : MRel S t M) : mA M 30 0 = t := h.2.2.2.2.2.2.2.2.2.2.2.2.2.2.2.2.2.2.2.2.2.2.2.2.1
theorem MRel.cD (h : MRel S t M) : mD M = sD S := h.2.2.2.2.2.2.2.2.2.2.2.2.2.2.2.2.2.2.2.2.2.2.2.2.2.1
theorem MRel.cK (h : MRel S t M) : ∀ f q, q ∈ sL S 4 f → sN S 12 q ≠ 0 := h.2.2.2.2.2.2.2.2.2.2.2.2.2.2.2.2.2.2.2.2.2.2.2.2.2.2
theorem MRel.mk (hL : mR_L (sL S 0) (sN S 12) (sI S 6) (mA M 0) (mA M 1) (mA M 2) 8) (hF : mR_L (sL S 4) (sN S 12) (sI S 6) (mA M 3) (mA M 4) (mA M 5) 24) (h6 : mR_N (sN S 11) (mA M 6) 24) (h7 : mR_I (sI S 5) (mA M 7) 24) (h8 : mR_N (sN S 3) (mA M 8) 6) (h9 : mR_N (sN S 6) (mA M 9) 6) (h10 : mR_N (sN S 7) (mA M 10) 6) (h11 : mR_N (sN S 5) (mA M 11) 6) (h12 : mR_A (sN S 15) (sN S 4) (mA M 12)) (h13 : mR_I (sI S 1) (mA M 13) 6) (h14 : mR_I (sI S 2) (mA M 14) 6) (h15 : mR_W (sL S 3) (mA M 15)) (h16 : mR_I (sI S 3) (mA M 16) 6) (h17 : mR_I (sI S 4) (mA M 17) 6) (hP : mR_R (sL S 2) (mA M 19) (mA M 18)) (h20 : mR_P (sN S 9) (mA M 20) 6) (hQ : mR_R (sL S 3) (mA M 22) (mA M 21)) (h23 : mR_S (fun v => sI S (2 * v + 100)) (mA M 23)) (h24 : mR_P (sN S 10) (mA M 24) 10) (h25 : mR_B (fun v => sN S (v + 100)) (mA M 25)) (h26 : mA M 26 0 = nI (sN S 0 0)) (h27 : mA M 27 0 = nI (sN S 1 0)) (h28 : mA M 28 0 = nI (sN S 2 0)) (h29 : mA M 29 0 = sI S 0 0) (h30 : mA M 30 0 = t) (hD : mD M = sD S) (hK : ∀ f q, q ∈ sL S 4 f → sN S 12 q ≠ 0) : MRel S t M := ⟨hL, hF, h6, h7, h8, h9, h10, h11, h12, h13, h14, h15, h16, h17, hP, h20, hQ, h23, h24, h25, h26, h27, h28, h29, h30, hD, hK⟩
theorem mR_N.up {f : Nat → Nat} {r : Nat → Int32} {b k v : Nat} (h : mR_N f r b) : mR_N (fun i => if i = k then v else f i) (fun i => if i = k then nI v else r i) b := fun i hi => by
  by_cases e : i = k
  · simp only [if_pos e]
  · simp only [if_neg e]; exact h i hi
theorem mR_I.up {f : Nat → Int32} {r : Nat → Int32} {b k : Nat} {v : Int32} (h : mR_I f r b) : mR_I (fun i => if i = k then v else f i) (fun i => if i = k then v else r i) b := fun i hi => by
  by_cases e : i = k
  · simp only [if_pos e]
  · simp only [if_neg e]; exact h i hi
theorem mR_P.up {f : Nat → Nat} {r : Nat → Int32} {b k v : Nat} {w : Int32} (hw : w = nI v - 1) (h : mR_P f r b) : mR_P (fun i => if i = k then v else f i) (fun i => if i = k then w else r i) b := fun i hi => by
  by_cases e : i = k
  · simp only [if_pos e]; exact hw
  · simp only [if_neg e]; exact h i hi
theorem mR_A.up {g f : Nat → Nat} {r : Nat → Int32} {k v : Nat} {w : Int32} (hw : w = nI v - 1) (h : mR_A g f r) : mR_A g (fun i => if i = k then v else f i) (fun i => if i = k then w else r i) := fun i hi h1 => by
  by_cases e : i = k
  · simp only [if_pos e]; exact hw
  · simp only [if_neg e]; exact h i hi h1
theorem sI_uI_n {S : kr_St} {a c k : Nat} {v : Int32} (h : a ≠ c) : sI (uI S c k v) a = sI S a := funext fun i => by
  show (if a = c ∧ i = k then v else S.1 a i) = S.1 a i
  exact if_neg (fun z => h z.1)
theorem sN_uN_n {S : kr_St} {a c k v : Nat} (h : a ≠ c) : sN (uN S c k v) a = sN S a := funext fun i => by
  show (if a = c ∧ i = k then v else S.2.1 a i) = S.2.1 a i
  exact if_neg (fun z => h z.1)
theorem if_and_l {α : Type} {a b k : Nat} {x y : α} : (if a = a ∧ b = k then x else y) = if b = k then x else y := by
  by_cases e : b = k
  · rw [if_pos ⟨rfl, e⟩, if_pos e]
  · rw [if_neg (fun z => e z.2), if_neg e]
theorem mr_6 {k v : Nat} (h : MRel S t M) : MRel (uN S 11 k v) t (mS M 6 k (nI v)) := MRel.mk h.cL h.cF (fun i hi => by
    show (if 6 = 6 ∧ i = k then nI v else mA M 6 i) = nI (if 11 = 11 ∧ i = k then v else sN S 11 i)
    rw [if_and_l, if_and_l]
    exact (mR_N.up (k := k) (v := v) h.c6) i hi) h.c7 h.c8 h.c9 h.c10 h.c11 h.c12 h.c13 h.c14 h.c15 h.c16 h.c17 h.cP h.c20 h.cQ h.c23 h.c24 h.c25 h.c26 h.c27 h.c28 h.c29 h.c30 h.cD h.cK
theorem mr_8 {k v : Nat} (h : MRel S t M) : MRel (uN S 3 k v) t (mS M 8 k (nI v)) := MRel.mk h.cL h.cF h.c6 h.c7 (fun i hi => by
    show (if 8 = 8 ∧ i = k then nI v else mA M 8 i) = nI (if 3 = 3 ∧ i = k then v else sN S 3 i)
    rw [if_and_l, if_and_l]
    exact (mR_N.up (k := k) (v := v) h.c8) i hi) h.c9 h.c10 h.c11 h.c12 h.c13 h.c14 h.c15 h.c16 h.c17 h.cP h.c20 h.cQ h.c23 h.c24 h.c25 h.c26 h.c27 h.c28 h.c29 h.c30 h.cD h.cK
theorem mr_9 {k v : Nat} (h : MRel S t M) : MRel (uN S 6 k v) t (mS M 9 k (nI v)) := MRel.mk h.cL h.cF h.c6 h.c7 h.c8 (fun i hi => by
    show (if 9 = 9 ∧ i = k then nI v else mA M 9 i) = nI (if 6 = 6 ∧ i = k then v else sN S 6 i)
    rw [if_and_l, if_and_l]
    exact (mR_N.up (k := k) (v := v) h.c9) i hi) h.c10 h.c11 h.c12 h.c13 h.c14 h.c15 h.c16 h.c17 h.cP h.c20 h.cQ h.c23 h.c24 h.c25 h.c26 h.c27 h.c28 h.c29 h.c30 h.cD h.cK
theorem mr_10 {k v : Nat} (h : MRel S t M) : MRel (uN S 7 k v) t (mS M 10 k (nI v)) := MRel.mk h.cL h.cF h.c6 h.c7 h.c8 h.c9 (fun i hi => by
    show (if 10 = 10 ∧ i = k then nI v else mA M 10 i) = nI (if 7 = 7 ∧ i = k then v else sN S 7 i)
    rw [if_and_l, if_and_l]
    exact (mR_N.up (k := k) (v := v) h.c10) i hi) h.c11 h.c12 h.c13 h.c14 h.c15 h.c16 h.c17 h.cP h.c20 h.cQ h.c23 h.c24 h.c25 h.c26 h.c27 h.c28 h.c29 h.c30 h.cD h.cK
theorem mr_11 {k v : Nat} (h : MRel S t M) : MRel (uN S 5 k v) t (mS M 11 k (nI v)) := MRel.mk h.cL h.cF h.c6 h.c7 h.c8 h.c9 h.c10 (fun i hi => by
    show (if 11 = 11 ∧ i = k then nI v else mA M 11 i) = nI (if 5 = 5 ∧ i = k then v else sN S 5 i)
    rw [if_and_l, if_and_l]
    exact (mR_N.up (k := k) (v := v) h.c11) i hi) h.c12 h.c13 h.c14 h.c15 h.c16 h.c17 h.cP h.c20 h.cQ h.c23 h.c24 h.c25 h.c26 h.c27 h.c28 h.c29 h.c30 h.cD h.cK
theorem mr_7 {k : Nat} {v : Int32} (h : MRel S t M) : MRel (uI S 5 k v) t (mS M 7 k v) := MRel.mk h.cL h.cF h.c6 (fun i hi => by
    show (if 7 = 7 ∧ i = k then v else mA M 7 i) = (if 5 = 5 ∧ i = k then v else sI S 5 i)
    rw [if_and_l, if_and_l]
    exact (mR_I.up (k := k) (v := v) h.c7) i hi) h.c8 h.c9 h.c10 h.c11 h.c12 h.c13 h.c14 h.c15 h.c16 h.c17 h.cP h.c20 h.cQ h.c23 h.c24 h.c25 h.c26 h.c27 h.c28 h.c29 h.c30 h.cD h.cK
theorem mr_13 {k : Nat} {v : Int32} (h : MRel S t M) : MRel (uI S 1 k v) t (mS M 13 k v) := MRel.mk h.cL h.cF h.c6 h.c7 h.c8 h.c9 h.c10 h.c11 h.c12 (fun i hi => by
    show (if 13 = 13 ∧ i = k then v else mA M 13 i) = (if 1 = 1 ∧ i = k then v else sI S 1 i)
    rw [if_and_l, if_and_l]
    exact (mR_I.up (k := k) (v := v) h.c13) i hi) h.c14 h.c15 h.c16 h.c17 h.cP h.c20 h.cQ h.c23 h.c24 h.c25 h.c26 h.c27 h.c28 h.c29 h.c30 h.cD h.cK
theorem mr_14 {k : Nat} {v : Int32} (h : MRel S t M) : MRel (uI S 2 k v) t (mS M 14 k v) := MRel.mk h.cL h.cF h.c6 h.c7 h.c8 h.c9 h.c10 h.c11 h.c12 h.c13 (fun i hi => by
    show (if 14 = 14 ∧ i = k then v else mA M 14 i) = (if 2 = 2 ∧ i = k then v else sI S 2 i)
    rw [if_and_l, if_and_l]
    exact (mR_I.up (k := k) (v := v) h.c14) i hi) h.c15 h.c16 h.c17 h.cP h.c20 h.cQ h.c23 h.c24 h.c25 h.c26 h.c27 h.c28 h.c29 h.c30 h.cD h.cK
theorem mr_16 {k : Nat} {v : Int32} (h : MRel S t M) : MRel (uI S 3 k v) t (mS M 16 k v) := MRel.mk h.cL h.cF h.c6 h.c7 h.c8 h.c9 h.c10 h.c11 h.c12 h.c13 h.c14 h.c15 (fun i hi => by
    show (if 16 = 16 ∧ i = k then v else mA M 16 i) = (if 3 = 3 ∧ i = k then v else sI S 3 i)
    rw [if_and_l, if_and_l]
    exact (mR_I.up (k := k) (v := v) h.c16) i hi) h.c17 h.cP h.c20 h.cQ h.c23 h.c24 h.c25 h.c26 h.c27 h.c28 h.c29 h.c30 h.cD h.cK
theorem mr_17 {k : Nat} {v : Int32} (h : MRel S t M) : MRel (uI S 4 k v) t (mS M 17 k v) := MRel.mk h.cL h.cF h.c6 h.c7 h.c8 h.c9 h.c10 h.c11 h.c12 h.c13 h.c14 h.c15 h.c16 (fun i hi => by
    show (if 17 = 17 ∧ i = k then v else mA M 17 i) = (if 4 = 4 ∧ i = k then v else sI S 4 i)
    rw [if_and_l, if_and_l]
    exact (mR_I.up (k := k) (v := v) h.c17) i hi) h.cP h.c20 h.cQ h.c23 h.c24 h.c25 h.c26 h.c27 h.c28 h.c29 h.c30 h.cD h.cK
theorem mr_20 {k v : Nat} {w : Int32} (hw : w = nI v - 1) (h : MRel S t M) : MRel (uN S 9 k v) t (mS M 20 k w) := MRel.mk h.cL h.cF h.c6 h.c7 h.c8 h.c9 h.c10 h.c11 h.c12 h.c13 h.c14 h.c15 h.c16 h.c17 h.cP (fun i hi => by
    show (if 20 = 20 ∧ i = k then w else mA M 20 i) = nI (if 9 = 9 ∧ i = k then v else sN S 9 i) - 1
    rw [if_and_l, if_and_l]
    exact (mR_P.up (k := k) hw h.c20) i hi) h.cQ h.c23 h.c24 h.c25 h.c26 h.c27 h.c28 h.c29 h.c30 h.cD h.cK
theorem mr_24 {k v : Nat} {w : Int32} (hw : w = nI v - 1) (h : MRel S t M) : MRel (uN S 10 k v) t (mS M 24 k w) := MRel.mk h.cL h.cF h.c6 h.c7 h.c8 h.c9 h.c10 h.c11 h.c12 h.c13 h.c14 h.c15 h.c16 h.c17 h.cP h.c20 h.cQ h.c23 (fun i hi => by
    show (if 24 = 24 ∧ i = k then w else mA M 24 i) = nI (if 10 = 10 ∧ i = k then v else sN S 10 i) - 1
    rw [if_and_l, if_and_l]
    exact (mR_P.up (k := k) hw h.c24) i hi) h.c25 h.c26 h.c27 h.c28 h.c29 h.c30 h.cD h.cK
theorem mr_12 {k v : Nat} {w : Int32} (hw : w = nI v - 1) (h : MRel S t M) : MRel (uN S 4 k v) t (mS M 12 k w) := MRel.mk h.cL h.cF h.c6 h.c7 h.c8 h.c9 h.c10 h.c11 (fun i hi h1 => by
    show (if 12 = 12 ∧ i = k then w else mA M 12 i) = nI (if 4 = 4 ∧ i = k then v else sN S 4 i) - 1
    rw [if_and_l, if_and_l]
    exact (mR_A.up (k := k) hw h.c12) i hi h1) h.c13 h.c14 h.c15 h.c16 h.c17 h.cP h.c20 h.cQ h.c23 h.c24 h.c25 h.c26 h.c27 h.c28 h.c29 h.c30 h.cD h.cK
theorem mr_26 {v : Nat} (h : MRel S t M) : MRel (uN S 0 0 v) t (mS M 26 0 (nI v)) := MRel.mk h.cL h.cF h.c6 h.c7 h.c8 h.c9 h.c10 h.c11 h.c12 h.c13 h.c14 h.c15 h.c16 h.c17 h.cP h.c20 h.cQ h.c23 h.c24 h.c25 (rfl) h.c27 h.c28 h.c29 h.c30 h.cD h.cK
theorem mr_27 {v : Nat} (h : MRel S t M) : MRel (uN S 1 0 v) t (mS M 27 0 (nI v)) := MRel.mk h.cL h.cF h.c6 h.c7 h.c8 h.c9 h.c10 h.c11 h.c12 h.c13 h.c14 h.c15 h.c16 h.c17 h.cP h.c20 h.cQ h.c23 h.c24 h.c25 h.c26 (rfl) h.c28 h.c29 h.c30 h.cD h.cK
theorem mr_28 {v : Nat} (h : MRel S t M) : MRel (uN S 2 0 v) t (mS M 28 0 (nI v)) := MRel.mk h.cL h.cF h.c6 h.c7 h.c8 h.c9 h.c10 h.c11 h.c12 h.c13 h.c14 h.c15 h.c16 h.c17 h.cP h.c20 h.cQ h.c23 h.c24 h.c25 h.c26 h.c27 (rfl) h.c29 h.c30 h.cD h.cK
theorem mr_29 {v : Int32} (h : MRel S t M) : MRel (uI S 0 0 v) t (mS M 29 0 v) := MRel.mk h.cL h.cF h.c6 h.c7 h.c8 h.c9 h.c10 h.c11 h.c12 h.c13 h.c14 h.c15 h.c16 h.c17 h.cP h.c20 h.cQ h.c23 h.c24 h.c25 h.c26 h.c27 h.c28 (rfl) h.c30 h.cD h.cK
theorem mr_30 {v : Int32} (h : MRel S t M) : MRel S v (mS M 30 0 v) := MRel.mk h.cL h.cF h.c6 h.c7 h.c8 h.c9 h.c10 h.c11 h.c12 h.c13 h.c14 h.c15 h.c16 h.c17 h.cP h.c20 h.cQ h.c23 h.c24 h.c25 h.c26 h.c27 h.c28 h.c29 (rfl) h.cD h.cK
theorem mr_D {v : Int64} (h : MRel S t M) : MRel (uD S v) t (mL M v) := MRel.mk h.cL h.cF h.c6 h.c7 h.c8 h.c9 h.c10 h.c11 h.c12 h.c13 h.c14 h.c15 h.c16 h.c17 h.cP h.c20 h.cQ h.c23 h.c24 h.c25 h.c26 h.c27 h.c28 h.c29 h.c30 (rfl) h.cK
theorem mr_o8 {k v : Nat} (h : MRel S t M) : MRel (uN S 8 k v) t M := MRel.mk h.cL h.cF h.c6 h.c7 h.c8 h.c9 h.c10 h.c11 h.c12 h.c13 h.c14 h.c15 h.c16 h.c17 h.cP h.c20 h.cQ h.c23 h.c24 h.c25 h.c26 h.c27 h.c28 h.c29 h.c30 h.cD h.cK
theorem mr_o1 {k : Nat} {v : List Nat} (h : MRel S t M) : MRel (uL S 1 k v) t M := MRel.mk h.cL h.cF h.c6 h.c7 h.c8 h.c9 h.c10 h.c11 h.c12 h.c13 h.c14 h.c15 h.c16 h.c17 h.cP h.c20 h.cQ h.c23 h.c24 h.c25 h.c26 h.c27 h.c28 h.c29 h.c30 h.cD h.cK
theorem mr_o15 {k v : Nat} (hv : v ≠ 1) (h : MRel S t M) : MRel (uN S 15 k v) t M := MRel.mk h.cL h.cF h.c6 h.c7 h.c8 h.c9 h.c10 h.c11 (fun i hi h1 => by
    refine h.c12 i hi ?_
    have h2 : (if 15 = 15 ∧ i = k then v else sN S 15 i) = 1 := h1
    rw [if_and_l] at h2
    by_cases e : i = k
    · rw [if_pos e] at h2; exact absurd h2 hv
    · rw [if_neg e] at h2; exact h2) h.c13 h.c14 h.c15 h.c16 h.c17 h.cP h.c20 h.cQ h.c23 h.c24 h.c25 h.c26 h.c27 h.c28 h.c29 h.c30 h.cD h.cK
theorem mr_asks {v s : Nat} {x : Int32} (h : MRel S t M) : MRel (uI S (2 * v + 101) s x) t M := MRel.mk (by rw [sI_uI_n (by omega)]; exact h.cL) (by rw [sI_uI_n (by omega)]; exact h.cF) h.c6 (by rw [sI_uI_n (by omega)]; exact h.c7) h.c8 h.c9 h.c10 h.c11 h.c12 (by rw [sI_uI_n (by omega)]; exact h.c13) (by rw [sI_uI_n (by omega)]; exact h.c14) h.c15 (by rw [sI_uI_n (by omega)]; exact h.c16) (by rw [sI_uI_n (by omega)]; exact h.c17) h.cP h.c20 h.cQ (fun a ha b hb => by dsimp only; rw [sI_uI_n (by omega)]; exact h.c23 a ha b hb) h.c24 h.c25 h.c26 h.c27 h.c28 (by rw [sI_uI_n (by omega)]; exact h.c29) h.c30 h.cD h.cK
theorem mr_23 {v s : Nat} {x : Int32} (hs : s < 100) (h : MRel S t M) : MRel (uI S (2 * v + 100) s x) t (mS M 23 (100 * v + s) x) := MRel.mk (by rw [sI_uI_n (by omega)]; exact h.cL) (by rw [sI_uI_n (by omega)]; exact h.cF) h.c6 (by rw [sI_uI_n (by omega)]; exact h.c7) h.c8 h.c9 h.c10 h.c11 h.c12 (by rw [sI_uI_n (by omega)]; exact h.c13) (by rw [sI_uI_n (by omega)]; exact h.c14) h.c15 (by rw [sI_uI_n (by omega)]; exact h.c16) (by rw [sI_uI_n (by omega)]; exact h.c17) h.cP h.c20 h.cQ (fun a ha b hb => by
    show (if 23 = 23 ∧ 100 * a + b = 100 * v + s then x else mA M 23 (100 * a + b)) = (if 2 * a + 100 = 2 * v + 100 ∧ b = s then x else sI S (2 * a + 100) b)
    by_cases e : a = v ∧ b = s
    · rw [if_pos ⟨rfl, by omega⟩, if_pos ⟨by omega, e.2⟩]
    · rw [if_neg (fun z => e (by omega)), if_neg (fun z => e (by omega))]
      exact h.c23 a ha b hb) h.c24 h.c25 h.c26 h.c27 h.c28 (by rw [sI_uI_n (by omega)]; exact h.c29) h.c30 h.cD h.cK
theorem mr_25 {v s n : Nat} (hs : s < 100) (h : MRel S t M) : MRel (uN S (v + 100) s n) t (mS M 25 (100 * v + s) (nI n)) := MRel.mk (by rw [sN_uN_n (by omega)]; exact h.cL) (by rw [sN_uN_n (by omega)]; exact h.cF) (by rw [sN_uN_n (by omega)]; exact h.c6) h.c7 (by rw [sN_uN_n (by omega)]; exact h.c8) (by rw [sN_uN_n (by omega)]; exact h.c9) (by rw [sN_uN_n (by omega)]; exact h.c10) (by rw [sN_uN_n (by omega)]; exact h.c11) (by rw [sN_uN_n (by omega), sN_uN_n (by omega)]; exact h.c12) h.c13 h.c14 h.c15 h.c16 h.c17 h.cP (by rw [sN_uN_n (by omega)]; exact h.c20) h.cQ h.c23 (by rw [sN_uN_n (by omega)]; exact h.c24) (fun a ha b hb => by
    show (if 25 = 25 ∧ 100 * a + b = 100 * v + s then nI n else mA M 25 (100 * a + b)) = nI (if a + 100 = v + 100 ∧ b = s then n else sN S (a + 100) b)
    by_cases e : a = v ∧ b = s
    · rw [if_pos ⟨rfl, by omega⟩, if_pos ⟨by omega, e.2⟩]
    · rw [if_neg (fun z => e (by omega)), if_neg (fun z => e (by omega))]
      exact h.c25 a ha b hb) (by rw [sN_uN_n (by omega)]; exact h.c26) (by rw [sN_uN_n (by omega)]; exact h.c27) (by rw [sN_uN_n (by omega)]; exact h.c28) h.c29 h.c30 h.cD (fun f q hq => by rw [sN_uN_n (by omega)]; exact h.cK f q hq)
theorem mr_P {k : Nat} {xs : List Nat} {m r : Nat → Int32} (hr : mR_R (sL (uL S 2 k xs) 2) m r) (h : MRel S t M) : MRel (uL S 2 k xs) t (mF (mF M 19 m) 18 r) := MRel.mk h.cL h.cF h.c6 h.c7 h.c8 h.c9 h.c10 h.c11 h.c12 h.c13 h.c14 h.c15 h.c16 h.c17 (hr) h.c20 h.cQ h.c23 h.c24 h.c25 h.c26 h.c27 h.c28 h.c29 h.c30 h.cD h.cK
theorem mr_Q {k : Nat} {xs : List Nat} {m r w : Nat → Int32} (hr : mR_R (sL (uL S 3 k xs) 3) m r) (hw : mR_W (sL (uL S 3 k xs) 3) w) (h : MRel S t M) : MRel (uL S 3 k xs) t (mF (mF (mF M 22 m) 21 r) 15 w) := MRel.mk h.cL h.cF h.c6 h.c7 h.c8 h.c9 h.c10 h.c11 h.c12 h.c13 h.c14 (hw) h.c16 h.c17 h.cP h.c20 (hr) h.c23 h.c24 h.c25 h.c26 h.c27 h.c28 h.c29 h.c30 h.cD h.cK
theorem mr_L {i : Nat} {xs : List Nat} {m k n : Nat → Int32} (hr : mR_L (sL (uL S 0 i xs) 0) (sN S 12) (sI S 6) m k n 8) (h : MRel S t M) : MRel (uL S 0 i xs) t (mF (mF (mF M 0 m) 1 k) 2 n) := MRel.mk (hr) h.cF h.c6 h.c7 h.c8 h.c9 h.c10 h.c11 h.c12 h.c13 h.c14 h.c15 h.c16 h.c17 h.cP h.c20 h.cQ h.c23 h.c24 h.c25 h.c26 h.c27 h.c28 h.c29 h.c30 h.cD h.cK
theorem mr_F {i : Nat} {xs : List Nat} {m k n : Nat → Int32} (hr : mR_L (sL (uL S 4 i xs) 4) (sN S 12) (sI S 6) m k n 24) (hk : ∀ f q, q ∈ sL (uL S 4 i xs) 4 f → sN S 12 q ≠ 0) (h : MRel S t M) : MRel (uL S 4 i xs) t (mF (mF (mF M 3 m) 4 k) 5 n) := MRel.mk h.cL (hr) h.c6 h.c7 h.c8 h.c9 h.c10 h.c11 h.c12 h.c13 h.c14 h.c15 h.c16 h.c17 h.cP h.c20 h.cQ h.c23 h.c24 h.c25 h.c26 h.c27 h.c28 h.c29 h.c30 h.cD (hk)
end
