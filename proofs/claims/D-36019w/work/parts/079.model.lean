/-! THE MODEL: its object has role (100, 0), its 26 rows (101, j). A state M: mA M j i (rows; scalars: 26 lists, 27 kiosks, 28 visitors, 29 shown, 30 thrown, all at 0), mD M (done). (printed by tools/gen_model.py) -/
set_option maxRecDepth 100000
abbrev kr_M : Type := (Nat → Nat → Int32) × Int64
def mA (M : kr_M) (j i : Nat) : Int32 := M.1 j i
def mD (M : kr_M) : Int64 := M.2
def mS (M : kr_M) (j i : Nat) (v : Int32) : kr_M := (fun a b => if a = j ∧ b = i then v else M.1 a b, M.2)
def mF (M : kr_M) (j : Nat) (f : Nat → Int32) : kr_M := (fun a b => if a = j then f b else M.1 a b, M.2)
def mL (M : kr_M) (v : Int64) : kr_M := (M.1, v)
theorem mA_mS {M : kr_M} {j i a b : Nat} {v : Int32} : mA (mS M j i v) a b = if a = j ∧ b = i then v else mA M a b := rfl
theorem mA_s {M : kr_M} {j i : Nat} {v : Int32} : mA (mS M j i v) j i = v := if_pos ⟨rfl, rfl⟩
theorem mA_j {M : kr_M} {j i a b : Nat} {v : Int32} (h : a ≠ j) : mA (mS M j i v) a b = mA M a b := if_neg (fun z => h z.1)
theorem mA_i {M : kr_M} {j i a b : Nat} {v : Int32} (h : b ≠ i) : mA (mS M j i v) a b = mA M a b := if_neg (fun z => h z.2)
theorem mA_mF {M : kr_M} {j a b : Nat} {f : Nat → Int32} : mA (mF M j f) a b = if a = j then f b else mA M a b := rfl
theorem mA_mL {M : kr_M} {a b : Nat} {v : Int64} : mA (mL M v) a b = mA M a b := rfl
theorem mD_mS {M : kr_M} {j i : Nat} {v : Int32} : mD (mS M j i v) = mD M := rfl
theorem mD_mF {M : kr_M} {j : Nat} {f : Nat → Int32} : mD (mF M j f) = mD M := rfl
theorem mD_mL {M : kr_M} {v : Int64} : mD (mL M v) = v := rfl
theorem mF_upd {M : kr_M} {j i : Nat} {v : Int32} : mF M j (upd (mA M j) i v) = mS M j i v := by
  refine Prod.ext (funext fun a => funext fun b => ?_) rfl
  show (if a = j then upd (mA M j) i v b else M.1 a b) = if a = j ∧ b = i then v else M.1 a b
  unfold upd
  by_cases h : a = j
  · rw [if_pos h]
    by_cases h2 : b = i
    · rw [if_pos h2, if_pos ⟨h, h2⟩]
    · rw [if_neg h2, if_neg (fun z => h2 z.2), h]
      rfl
  · rw [if_neg h, if_neg (fun z => h z.1)]
def mT (j : Nat) : Nat := if j = 8 ∨ j = 9 ∨ j = 10 ∨ j = 25 then 1 else 0
def mNl : List Nat := [8, 160, 160, 24, 480, 480, 24, 24, 6, 6, 6, 6, 6, 6, 6, 6, 6, 6, 36, 6, 6, 36, 6, 1000, 10, 1000]
def mN (j : Nat) : Nat := mNl.getD j 1
abbrev mFs (g : kr_Gh) (M : kr_M) : List Value := [.ref (gA g (101, 0)), .ref (gA g (101, 1)), .ref (gA g (101, 2)), .ref (gA g (101, 3)), .ref (gA g (101, 4)), .ref (gA g (101, 5)), .ref (gA g (101, 6)), .ref (gA g (101, 7)), .ref (gA g (101, 8)), .ref (gA g (101, 9)), .ref (gA g (101, 10)), .ref (gA g (101, 11)), .ref (gA g (101, 12)), .ref (gA g (101, 13)), .ref (gA g (101, 14)), .ref (gA g (101, 15)), .ref (gA g (101, 16)), .ref (gA g (101, 17)), .ref (gA g (101, 18)), .ref (gA g (101, 19)), .ref (gA g (101, 20)), .ref (gA g (101, 21)), .ref (gA g (101, 22)), .ref (gA g (101, 23)), .ref (gA g (101, 24)), .ref (gA g (101, 25)), .int (mA M 26 0), .int (mA M 27 0), .int (mA M 28 0), .int (mA M 29 0), .int (mA M 30 0), .long (mD M)]
def zM (G : kr_G) (g : kr_Gh) (M : kr_M) (Z : kr_Ro → Option kr_AE) (r : kr_Ro) : Option kr_AE := if r.1 = 100 then (if r.2 = 0 then kr_o 1 (mFs g M) else none) else if r.1 = 101 then (if r.2 < 26 then kr_ai G (mT r.2) (mN r.2) (mA M r.2) else none) else Z r
theorem zM_nol {G : kr_G} {g : kr_Gh} {M : kr_M} {Z : kr_Ro → Option kr_AE} (h : ∀ r z, Z r ≠ some (.inr z)) : ∀ r z, zM G g M Z r ≠ some (.inr z) := fun r z => by
  unfold zM
  split
  · split <;> exact fun z => by cases z
  · split
    · split <;> exact fun z => by cases z
    · exact h r z
section
variable {G : kr_G} {l : Launch} {g g' : kr_Gh} {S S' : kr_St} {Z Z' : kr_Ro → Option kr_AE} {M : kr_M}
theorem zM_o : kr_cells G g S (zM G g M Z) (100, 0) = kr_o 1 (mFs g M) := rfl
theorem zM_put {j : Nat} {f : Nat → Int32} (h : j < 26) : kr_up (kr_cells G g S (zM G g M Z)) (101, j) (kr_ai G (mT j) (mN j) f) = kr_cells G g S (zM G g (mF M j f) Z) := by
  rw [kc_up (r := (101, j)) (by show 18 ≤ 101; decide)]
  refine congrArg (kr_cells G g S) (funext fun r => ?_)
  by_cases e : r = (101, j)
  · subst e
    rw [kr_up_s]
    show _ = (if j < 26 then kr_ai G (mT j) (mN j) (mA (mF M j f) j) else none)
    rw [if_pos h]
    refine congrArg (fun f => kr_ai G (mT j) (mN j) f) (funext fun b => ?_)
    exact (if_pos rfl).symm
  · rw [kr_up_n e]
    obtain ⟨a, b⟩ := r
    unfold zM
    by_cases e1 : a = 100
    · simp only [if_pos e1]
      by_cases e0 : b = 0
      · simp only [if_pos e0]
        have key : ∀ s, 26 ≤ s → mA (mF M j f) s 0 = mA M s 0 := fun s hs => if_neg (by omega)
        simp only [mFs, key 26 (by decide), key 27 (by decide), key 28 (by decide), key 29 (by decide), key 30 (by decide)]
        rfl
      · simp only [if_neg e0]
    · simp only [if_neg e1]
      by_cases e2 : a = 101
      · simp only [if_pos e2]
        have hb : b ≠ j := fun z => e (by rw [e2, z])
        by_cases e3 : b < 26
        · simp only [if_pos e3]
          refine congrArg (fun f => kr_ai G (mT b) (mN b) f) (funext fun i => ?_)
          exact (if_neg hb).symm
        · simp only [if_neg e3]
      · simp only [if_neg e2]
theorem zM_set {M' : kr_M} (h : ∀ j, j < 26 → mA M' j = mA M j) : kr_up (kr_cells G g S (zM G g M Z)) (100, 0) (kr_o 1 (mFs g M')) = kr_cells G g S (zM G g M' Z) := by
  rw [kc_up (r := (100, 0)) (by show 18 ≤ 100; decide)]
  refine congrArg (kr_cells G g S) (funext fun r => ?_)
  by_cases e : r = (100, 0)
  · subst e
    rw [kr_up_s]
    rfl
  · rw [kr_up_n e]
    obtain ⟨a, b⟩ := r
    unfold zM
    by_cases e1 : a = 100
    · have hb : b ≠ 0 := fun z => e (by rw [e1, z])
      simp only [if_pos e1, if_neg hb]
    · simp only [if_neg e1]
      by_cases e2 : a = 101
      · simp only [if_pos e2]
        by_cases e3 : b < 26
        · simp only [if_pos e3, h b e3]
        · simp only [if_neg e3]
      · simp only [if_neg e2]
theorem km_0 : kr_cells G g S (zM G g M Z) (101, 0) = kr_ai G 0 8 (mA M 0) := rfl
theorem kmp_0 {e : Nat} {v : Int32} : kr_up (kr_cells G g S (zM G g M Z)) (101, 0) (kr_ai G 0 8 (upd (mA M 0) e v)) = kr_cells G g S (zM G g (mS M 0 e v) Z) := by
  rw [← mF_upd]
  exact zM_put (j := 0) (by decide)
theorem km_1 : kr_cells G g S (zM G g M Z) (101, 1) = kr_ai G 0 160 (mA M 1) := rfl
theorem kmp_1 {e : Nat} {v : Int32} : kr_up (kr_cells G g S (zM G g M Z)) (101, 1) (kr_ai G 0 160 (upd (mA M 1) e v)) = kr_cells G g S (zM G g (mS M 1 e v) Z) := by
  rw [← mF_upd]
  exact zM_put (j := 1) (by decide)
theorem km_2 : kr_cells G g S (zM G g M Z) (101, 2) = kr_ai G 0 160 (mA M 2) := rfl
theorem kmp_2 {e : Nat} {v : Int32} : kr_up (kr_cells G g S (zM G g M Z)) (101, 2) (kr_ai G 0 160 (upd (mA M 2) e v)) = kr_cells G g S (zM G g (mS M 2 e v) Z) := by
  rw [← mF_upd]
  exact zM_put (j := 2) (by decide)
theorem km_3 : kr_cells G g S (zM G g M Z) (101, 3) = kr_ai G 0 24 (mA M 3) := rfl
theorem kmp_3 {e : Nat} {v : Int32} : kr_up (kr_cells G g S (zM G g M Z)) (101, 3) (kr_ai G 0 24 (upd (mA M 3) e v)) = kr_cells G g S (zM G g (mS M 3 e v) Z) := by
  rw [← mF_upd]
  exact zM_put (j := 3) (by decide)
theorem km_4 : kr_cells G g S (zM G g M Z) (101, 4) = kr_ai G 0 480 (mA M 4) := rfl
theorem kmp_4 {e : Nat} {v : Int32} : kr_up (kr_cells G g S (zM G g M Z)) (101, 4) (kr_ai G 0 480 (upd (mA M 4) e v)) = kr_cells G g S (zM G g (mS M 4 e v) Z) := by
  rw [← mF_upd]
  exact zM_put (j := 4) (by decide)
theorem km_5 : kr_cells G g S (zM G g M Z) (101, 5) = kr_ai G 0 480 (mA M 5) := rfl
theorem kmp_5 {e : Nat} {v : Int32} : kr_up (kr_cells G g S (zM G g M Z)) (101, 5) (kr_ai G 0 480 (upd (mA M 5) e v)) = kr_cells G g S (zM G g (mS M 5 e v) Z) := by
  rw [← mF_upd]
  exact zM_put (j := 5) (by decide)
theorem km_6 : kr_cells G g S (zM G g M Z) (101, 6) = kr_ai G 0 24 (mA M 6) := rfl
theorem kmp_6 {e : Nat} {v : Int32} : kr_up (kr_cells G g S (zM G g M Z)) (101, 6) (kr_ai G 0 24 (upd (mA M 6) e v)) = kr_cells G g S (zM G g (mS M 6 e v) Z) := by
  rw [← mF_upd]
  exact zM_put (j := 6) (by decide)
theorem km_7 : kr_cells G g S (zM G g M Z) (101, 7) = kr_ai G 0 24 (mA M 7) := rfl
theorem kmp_7 {e : Nat} {v : Int32} : kr_up (kr_cells G g S (zM G g M Z)) (101, 7) (kr_ai G 0 24 (upd (mA M 7) e v)) = kr_cells G g S (zM G g (mS M 7 e v) Z) := by
  rw [← mF_upd]
  exact zM_put (j := 7) (by decide)
theorem km_8 : kr_cells G g S (zM G g M Z) (101, 8) = kr_ai G 1 6 (mA M 8) := rfl
theorem kmp_8 {e : Nat} {v : Int32} : kr_up (kr_cells G g S (zM G g M Z)) (101, 8) (kr_ai G 1 6 (upd (mA M 8) e v)) = kr_cells G g S (zM G g (mS M 8 e v) Z) := by
  rw [← mF_upd]
  exact zM_put (j := 8) (by decide)
theorem km_9 : kr_cells G g S (zM G g M Z) (101, 9) = kr_ai G 1 6 (mA M 9) := rfl
theorem kmp_9 {e : Nat} {v : Int32} : kr_up (kr_cells G g S (zM G g M Z)) (101, 9) (kr_ai G 1 6 (upd (mA M 9) e v)) = kr_cells G g S (zM G g (mS M 9 e v) Z) := by
  rw [← mF_upd]
  exact zM_put (j := 9) (by decide)
theorem km_10 : kr_cells G g S (zM G g M Z) (101, 10) = kr_ai G 1 6 (mA M 10) := rfl
theorem kmp_10 {e : Nat} {v : Int32} : kr_up (kr_cells G g S (zM G g M Z)) (101, 10) (kr_ai G 1 6 (upd (mA M 10) e v)) = kr_cells G g S (zM G g (mS M 10 e v) Z) := by
  rw [← mF_upd]
  exact zM_put (j := 10) (by decide)
theorem km_11 : kr_cells G g S (zM G g M Z) (101, 11) = kr_ai G 0 6 (mA M 11) := rfl
theorem kmp_11 {e : Nat} {v : Int32} : kr_up (kr_cells G g S (zM G g M Z)) (101, 11) (kr_ai G 0 6 (upd (mA M 11) e v)) = kr_cells G g S (zM G g (mS M 11 e v) Z) := by
  rw [← mF_upd]
  exact zM_put (j := 11) (by decide)
theorem km_12 : kr_cells G g S (zM G g M Z) (101, 12) = kr_ai G 0 6 (mA M 12) := rfl
theorem kmp_12 {e : Nat} {v : Int32} : kr_up (kr_cells G g S (zM G g M Z)) (101, 12) (kr_ai G 0 6 (upd (mA M 12) e v)) = kr_cells G g S (zM G g (mS M 12 e v) Z) := by
  rw [← mF_upd]
  exact zM_put (j := 12) (by decide)
theorem km_13 : kr_cells G g S (zM G g M Z) (101, 13) = kr_ai G 0 6 (mA M 13) := rfl
theorem kmp_13 {e : Nat} {v : Int32} : kr_up (kr_cells G g S (zM G g M Z)) (101, 13) (kr_ai G 0 6 (upd (mA M 13) e v)) = kr_cells G g S (zM G g (mS M 13 e v) Z) := by
  rw [← mF_upd]
  exact zM_put (j := 13) (by decide)
theorem km_14 : kr_cells G g S (zM G g M Z) (101, 14) = kr_ai G 0 6 (mA M 14) := rfl
theorem kmp_14 {e : Nat} {v : Int32} : kr_up (kr_cells G g S (zM G g M Z)) (101, 14) (kr_ai G 0 6 (upd (mA M 14) e v)) = kr_cells G g S (zM G g (mS M 14 e v) Z) := by
  rw [← mF_upd]
  exact zM_put (j := 14) (by decide)
theorem km_15 : kr_cells G g S (zM G g M Z) (101, 15) = kr_ai G 0 6 (mA M 15) := rfl
theorem kmp_15 {e : Nat} {v : Int32} : kr_up (kr_cells G g S (zM G g M Z)) (101, 15) (kr_ai G 0 6 (upd (mA M 15) e v)) = kr_cells G g S (zM G g (mS M 15 e v) Z) := by
  rw [← mF_upd]
  exact zM_put (j := 15) (by decide)
theorem km_16 : kr_cells G g S (zM G g M Z) (101, 16) = kr_ai G 0 6 (mA M 16) := rfl
theorem kmp_16 {e : Nat} {v : Int32} : kr_up (kr_cells G g S (zM G g M Z)) (101, 16) (kr_ai G 0 6 (upd (mA M 16) e v)) = kr_cells G g S (zM G g (mS M 16 e v) Z) := by
  rw [← mF_upd]
  exact zM_put (j := 16) (by decide)
theorem km_17 : kr_cells G g S (zM G g M Z) (101, 17) = kr_ai G 0 6 (mA M 17) := rfl
theorem kmp_17 {e : Nat} {v : Int32} : kr_up (kr_cells G g S (zM G g M Z)) (101, 17) (kr_ai G 0 6 (upd (mA M 17) e v)) = kr_cells G g S (zM G g (mS M 17 e v) Z) := by
  rw [← mF_upd]
  exact zM_put (j := 17) (by decide)
theorem km_18 : kr_cells G g S (zM G g M Z) (101, 18) = kr_ai G 0 36 (mA M 18) := rfl
theorem kmp_18 {e : Nat} {v : Int32} : kr_up (kr_cells G g S (zM G g M Z)) (101, 18) (kr_ai G 0 36 (upd (mA M 18) e v)) = kr_cells G g S (zM G g (mS M 18 e v) Z) := by
  rw [← mF_upd]
  exact zM_put (j := 18) (by decide)
theorem km_19 : kr_cells G g S (zM G g M Z) (101, 19) = kr_ai G 0 6 (mA M 19) := rfl
theorem kmp_19 {e : Nat} {v : Int32} : kr_up (kr_cells G g S (zM G g M Z)) (101, 19) (kr_ai G 0 6 (upd (mA M 19) e v)) = kr_cells G g S (zM G g (mS M 19 e v) Z) := by
  rw [← mF_upd]
  exact zM_put (j := 19) (by decide)
theorem km_20 : kr_cells G g S (zM G g M Z) (101, 20) = kr_ai G 0 6 (mA M 20) := rfl
theorem kmp_20 {e : Nat} {v : Int32} : kr_up (kr_cells G g S (zM G g M Z)) (101, 20) (kr_ai G 0 6 (upd (mA M 20) e v)) = kr_cells G g S (zM G g (mS M 20 e v) Z) := by
  rw [← mF_upd]
  exact zM_put (j := 20) (by decide)
theorem km_21 : kr_cells G g S (zM G g M Z) (101, 21) = kr_ai G 0 36 (mA M 21) := rfl
theorem kmp_21 {e : Nat} {v : Int32} : kr_up (kr_cells G g S (zM G g M Z)) (101, 21) (kr_ai G 0 36 (upd (mA M 21) e v)) = kr_cells G g S (zM G g (mS M 21 e v) Z) := by
  rw [← mF_upd]
  exact zM_put (j := 21) (by decide)
theorem km_22 : kr_cells G g S (zM G g M Z) (101, 22) = kr_ai G 0 6 (mA M 22) := rfl
theorem kmp_22 {e : Nat} {v : Int32} : kr_up (kr_cells G g S (zM G g M Z)) (101, 22) (kr_ai G 0 6 (upd (mA M 22) e v)) = kr_cells G g S (zM G g (mS M 22 e v) Z) := by
  rw [← mF_upd]
  exact zM_put (j := 22) (by decide)
theorem km_23 : kr_cells G g S (zM G g M Z) (101, 23) = kr_ai G 0 1000 (mA M 23) := rfl
theorem kmp_23 {e : Nat} {v : Int32} : kr_up (kr_cells G g S (zM G g M Z)) (101, 23) (kr_ai G 0 1000 (upd (mA M 23) e v)) = kr_cells G g S (zM G g (mS M 23 e v) Z) := by
  rw [← mF_upd]
  exact zM_put (j := 23) (by decide)
theorem km_24 : kr_cells G g S (zM G g M Z) (101, 24) = kr_ai G 0 10 (mA M 24) := rfl
theorem kmp_24 {e : Nat} {v : Int32} : kr_up (kr_cells G g S (zM G g M Z)) (101, 24) (kr_ai G 0 10 (upd (mA M 24) e v)) = kr_cells G g S (zM G g (mS M 24 e v) Z) := by
  rw [← mF_upd]
  exact zM_put (j := 24) (by decide)
theorem km_25 : kr_cells G g S (zM G g M Z) (101, 25) = kr_ai G 1 1000 (mA M 25) := rfl
theorem kmp_25 {e : Nat} {v : Int32} : kr_up (kr_cells G g S (zM G g M Z)) (101, 25) (kr_ai G 1 1000 (upd (mA M 25) e v)) = kr_cells G g S (zM G g (mS M 25 e v) Z) := by
  rw [← mF_upd]
  exact zM_put (j := 25) (by decide)
theorem kms_26 {v : Int32} : kr_up (kr_cells G g S (zM G g M Z)) (100, 0) (kr_o 1 ((mFs g M).set 26 (.int v))) = kr_cells G g S (zM G g (mS M 26 0 v) Z) :=
  zM_set (M' := mS M 26 0 v) (fun j hj => funext fun i => if_neg (fun z => by omega))
theorem kms_27 {v : Int32} : kr_up (kr_cells G g S (zM G g M Z)) (100, 0) (kr_o 1 ((mFs g M).set 27 (.int v))) = kr_cells G g S (zM G g (mS M 27 0 v) Z) :=
  zM_set (M' := mS M 27 0 v) (fun j hj => funext fun i => if_neg (fun z => by omega))
theorem kms_28 {v : Int32} : kr_up (kr_cells G g S (zM G g M Z)) (100, 0) (kr_o 1 ((mFs g M).set 28 (.int v))) = kr_cells G g S (zM G g (mS M 28 0 v) Z) :=
  zM_set (M' := mS M 28 0 v) (fun j hj => funext fun i => if_neg (fun z => by omega))
theorem kms_29 {v : Int32} : kr_up (kr_cells G g S (zM G g M Z)) (100, 0) (kr_o 1 ((mFs g M).set 29 (.int v))) = kr_cells G g S (zM G g (mS M 29 0 v) Z) :=
  zM_set (M' := mS M 29 0 v) (fun j hj => funext fun i => if_neg (fun z => by omega))
theorem kms_30 {v : Int32} : kr_up (kr_cells G g S (zM G g M Z)) (100, 0) (kr_o 1 ((mFs g M).set 30 (.int v))) = kr_cells G g S (zM G g (mS M 30 0 v) Z) :=
  zM_set (M' := mS M 30 0 v) (fun j hj => funext fun i => if_neg (fun z => by omega))
theorem kms_31 {v : Int64} : kr_up (kr_cells G g S (zM G g M Z)) (100, 0) (kr_o 1 ((mFs g M).set 31 (.long v))) = kr_cells G g S (zM G g (mL M v) Z) :=
  zM_set (M' := mL M v) (fun j hj => rfl)
end
section
variable {G : kr_G} {x : kr_X} {y : MethodName} {cc : ByteArray} {nL : Nat} {ret : Option FieldType} {rm : Room} {hh : List (Nat × Nat × Nat × Nat)} {Q : State → Prop} {P P' : Heap → Prop} {cs ss pc : Nat} {lv lv' : List (Option Value)} {st : List Value} {a b : Nat}
theorem kj_iaddN (X : kr_C G x y cc nL ret rm hh) (hdg : decode cc pc = .ok (.iadd, 1)) (k : kr_J G x nL Q P cs ss (pc + 1) lv (.int (nI (a + b)) :: st)) : kr_J G x nL Q P cs ss pc lv (.int (nI b) :: .int (nI a) :: st) := kj_iadd X hdg (by rw [nI_add]; exact k)
theorem nI_mul' (a b : Nat) : nI a * nI b = nI (a * b) := by
  show Int32.ofNat a * Int32.ofNat b = Int32.ofNat (a * b)
  exact (Int32.ofNat_mul a b).symm
theorem kj_imulN (X : kr_C G x y cc nL ret rm hh) (hdg : decode cc pc = .ok (.imul, 1)) (k : kr_J G x nL Q P cs ss (pc + 1) lv (.int (nI (a * b)) :: st)) : kr_J G x nL Q P cs ss pc lv (.int (nI b) :: .int (nI a) :: st) := kj_imul X hdg (by rw [nI_mul']; exact k)
theorem kj_isubN (X : kr_C G x y cc nL ret rm hh) (h : b ≤ a) (hdg : decode cc pc = .ok (.isub, 1)) (k : kr_J G x nL Q P cs ss (pc + 1) lv (.int (nI (a - b)) :: st)) : kr_J G x nL Q P cs ss pc lv (.int (nI b) :: .int (nI a) :: st) := kj_isub X hdg (by rw [pk_sub h]; exact k)
theorem kj_ialdN (X : kr_C G x y cc nL ret rm hh) {n e : Nat} {f : Nat → Int32} (hdg : decode cc pc = .ok (.iaload, 1)) (hP : ∀ H, P H → kr_own G a (.inl (kg_A G 0, n, .inl f)) H) (he : e < n) (hn : n < 2 ^ 31)
    (k : kr_J G x nL Q P cs ss (pc + 1) lv (.int (f e) :: st)) : kr_J G x nL Q P cs ss pc lv (.int (nI e) :: .ref a :: st) := kj_iald X hdg hP (vp_in_nI he hn) (by rw [nI_clamp (by omega)]; exact k)
theorem kj_zaldN (X : kr_C G x y cc nL ret rm hh) {n e : Nat} {f : Nat → Int32} (hdg : decode cc pc = .ok (.baload, 1)) (hP : ∀ H, P H → kr_own G a (.inl (kg_A G 1, n, .inl f)) H) (he : e < n) (hn : n < 2 ^ 31)
    (k : kr_J G x nL Q P cs ss (pc + 1) lv (.int (f e) :: st)) : kr_J G x nL Q P cs ss pc lv (.int (nI e) :: .ref a :: st) := kj_zald X hdg hP (vp_in_nI he hn) (by rw [nI_clamp (by omega)]; exact k)
theorem kj_iastN (X : kr_C G x y cc nL ret rm hh) {n e : Nat} {f : Nat → Int32} {v : Int32} (hdg : decode cc pc = .ok (.iastore, 1)) (hP : ∀ H, P H → kr_own G a (.inl (kg_A G 0, n, .inl f)) H) (he : e < n) (hn : n < 2 ^ 31) (hput : ∀ H H1, P H → va_at (kg_D G) kr_cl (a, .inl (kg_A G 0, n, .inl (upd f e v))) H1 → kr_upd H H1 a → P' H1)
    (k : kr_J G x nL Q P' cs ss (pc + 1) lv st) : kr_J G x nL Q P cs ss pc lv (.int v :: .int (nI e) :: .ref a :: st) := kj_iast X hdg hP (vp_in_nI he hn) (fun H H1 h a u => hput H H1 h (by rw [nI_clamp (by omega)] at a; exact a) u) k
theorem kj_zastN (X : kr_C G x y cc nL ret rm hh) {n e : Nat} {f : Nat → Int32} {v : Int32} (hdg : decode cc pc = .ok (.bastore, 1)) (hP : ∀ H, P H → kr_own G a (.inl (kg_A G 1, n, .inl f)) H) (he : e < n) (hn : n < 2 ^ 31) (hv : vp_nar .boolean v = v) (hput : ∀ H H1, P H → va_at (kg_D G) kr_cl (a, .inl (kg_A G 1, n, .inl (upd f e v))) H1 → kr_upd H H1 a → P' H1)
    (k : kr_J G x nL Q P' cs ss (pc + 1) lv st) : kr_J G x nL Q P cs ss pc lv (.int v :: .int (nI e) :: .ref a :: st) := kj_zast X hdg hP (vp_in_nI he hn) (fun H H1 h a u => hput H H1 h (by rw [nI_clamp (by omega), hv] at a; exact a) u) k
theorem kj_icmp_eqN (X : kr_C G x y cc nL ret rm hh) {off : Int} (tgt : Nat) (hdg : decode cc pc = .ok (.if_icmp .eq off, 3)) (ht : (pc : Int) + off = (tgt : Int)) (ha : a < 2 ^ 31) (hb : b < 2 ^ 31) (kt : a = b → kr_J G x nL Q P cs ss tgt lv st) (kf : ¬ a = b → kr_J G x nL Q P cs ss (pc + 3) lv st) : kr_J G x nL Q P cs ss pc lv (.int (nI b) :: .int (nI a) :: st) := kj_icmp_eq X tgt hdg ht (fun h => kt ((nI_eq ha hb).mp h)) (fun h => kf (fun z => h ((nI_eq ha hb).mpr z)))
theorem kj_icmp_neN (X : kr_C G x y cc nL ret rm hh) {off : Int} (tgt : Nat) (hdg : decode cc pc = .ok (.if_icmp .ne off, 3)) (ht : (pc : Int) + off = (tgt : Int)) (ha : a < 2 ^ 31) (hb : b < 2 ^ 31) (kt : ¬ a = b → kr_J G x nL Q P cs ss tgt lv st) (kf : a = b → kr_J G x nL Q P cs ss (pc + 3) lv st) : kr_J G x nL Q P cs ss pc lv (.int (nI b) :: .int (nI a) :: st) := kj_icmp_ne X tgt hdg ht (fun h => kt (fun z => h (by rw [z]))) (fun h => kf ((nI_eq ha hb).mp h))
theorem kj_icmp_ltN (X : kr_C G x y cc nL ret rm hh) {off : Int} (tgt : Nat) (hdg : decode cc pc = .ok (.if_icmp .lt off, 3)) (ht : (pc : Int) + off = (tgt : Int)) (ha : a < 2 ^ 31) (hb : b < 2 ^ 31) (kt : a < b → kr_J G x nL Q P cs ss tgt lv st) (kf : ¬ a < b → kr_J G x nL Q P cs ss (pc + 3) lv st) : kr_J G x nL Q P cs ss pc lv (.int (nI b) :: .int (nI a) :: st) := kj_icmp_lt X tgt hdg ht (fun h => kt ((nI_ltI ha hb).mp h)) (fun h => kf (fun z => h ((nI_ltI ha hb).mpr z)))
theorem kj_icmp_geN (X : kr_C G x y cc nL ret rm hh) {off : Int} (tgt : Nat) (hdg : decode cc pc = .ok (.if_icmp .ge off, 3)) (ht : (pc : Int) + off = (tgt : Int)) (ha : a < 2 ^ 31) (hb : b < 2 ^ 31) (kt : b ≤ a → kr_J G x nL Q P cs ss tgt lv st) (kf : ¬ b ≤ a → kr_J G x nL Q P cs ss (pc + 3) lv st) : kr_J G x nL Q P cs ss pc lv (.int (nI b) :: .int (nI a) :: st) := kj_icmp_ge X tgt hdg ht (fun h => kt ((nI_leI hb ha).mp h)) (fun h => kf (fun z => h ((nI_leI hb ha).mpr z)))
theorem kj_icmp_gtN (X : kr_C G x y cc nL ret rm hh) {off : Int} (tgt : Nat) (hdg : decode cc pc = .ok (.if_icmp .gt off, 3)) (ht : (pc : Int) + off = (tgt : Int)) (ha : a < 2 ^ 31) (hb : b < 2 ^ 31) (kt : b < a → kr_J G x nL Q P cs ss tgt lv st) (kf : ¬ b < a → kr_J G x nL Q P cs ss (pc + 3) lv st) : kr_J G x nL Q P cs ss pc lv (.int (nI b) :: .int (nI a) :: st) := kj_icmp_gt X tgt hdg ht (fun h => kt ((nI_ltI hb ha).mp h)) (fun h => kf (fun z => h ((nI_ltI hb ha).mpr z)))
theorem kj_icmp_leN (X : kr_C G x y cc nL ret rm hh) {off : Int} (tgt : Nat) (hdg : decode cc pc = .ok (.if_icmp .le off, 3)) (ht : (pc : Int) + off = (tgt : Int)) (ha : a < 2 ^ 31) (hb : b < 2 ^ 31) (kt : a ≤ b → kr_J G x nL Q P cs ss tgt lv st) (kf : ¬ a ≤ b → kr_J G x nL Q P cs ss (pc + 3) lv st) : kr_J G x nL Q P cs ss pc lv (.int (nI b) :: .int (nI a) :: st) := kj_icmp_le X tgt hdg ht (fun h => kt ((nI_leI ha hb).mp h)) (fun h => kf (fun z => h ((nI_leI ha hb).mpr z)))
theorem kj_if_eqN (X : kr_C G x y cc nL ret rm hh) {off : Int} (tgt : Nat) (hdg : decode cc pc = .ok (.ifCond .eq off, 3)) (ht : (pc : Int) + off = (tgt : Int)) (ha : a < 2 ^ 31) (kt : a = 0 → kr_J G x nL Q P cs ss tgt lv st) (kf : ¬ a = 0 → kr_J G x nL Q P cs ss (pc + 3) lv st) : kr_J G x nL Q P cs ss pc lv (.int (nI a) :: st) := kj_if_eq X tgt hdg ht (fun h => kt ((nI_eq (b := 0) ha (by decide)).mp h)) (fun h => kf (fun z => h (by rw [z]; rfl)))
/-- a truth value -/
theorem kj_if_eqB (X : kr_C G x y cc nL ret rm hh) {p : Prop} {dp : Decidable p} {off : Int} (tgt : Nat) (hdg : decode cc pc = .ok (.ifCond .eq off, 3)) (ht : (pc : Int) + off = (tgt : Int)) (kt : ¬ p → kr_J G x nL Q P cs ss tgt lv st) (kf : p → kr_J G x nL Q P cs ss (pc + 3) lv st) : kr_J G x nL Q P cs ss pc lv (.int (kr_b (@decide p dp)) :: st) := by
  by_cases h : p
  · rw [decide_eq_true h]
    exact kj_if_eq X tgt hdg ht (fun z => absurd z (by decide)) (fun z => kf h)
  · rw [decide_eq_false h]
    exact kj_if_eq X tgt hdg ht (fun z => kt h) (fun z => absurd rfl z)
theorem kj_if_neN (X : kr_C G x y cc nL ret rm hh) {off : Int} (tgt : Nat) (hdg : decode cc pc = .ok (.ifCond .ne off, 3)) (ht : (pc : Int) + off = (tgt : Int)) (ha : a < 2 ^ 31) (kt : ¬ a = 0 → kr_J G x nL Q P cs ss tgt lv st) (kf : a = 0 → kr_J G x nL Q P cs ss (pc + 3) lv st) : kr_J G x nL Q P cs ss pc lv (.int (nI a) :: st) := kj_if_ne X tgt hdg ht (fun h => kt (fun z => h (by rw [z]; rfl))) (fun h => kf ((nI_eq (b := 0) ha (by decide)).mp h))
/-- a truth value -/
theorem kj_if_neB (X : kr_C G x y cc nL ret rm hh) {p : Prop} {dp : Decidable p} {off : Int} (tgt : Nat) (hdg : decode cc pc = .ok (.ifCond .ne off, 3)) (ht : (pc : Int) + off = (tgt : Int)) (kt : p → kr_J G x nL Q P cs ss tgt lv st) (kf : ¬ p → kr_J G x nL Q P cs ss (pc + 3) lv st) : kr_J G x nL Q P cs ss pc lv (.int (kr_b (@decide p dp)) :: st) := by
  by_cases h : p
  · rw [decide_eq_true h]
    exact kj_if_ne X tgt hdg ht (fun z => kt h) (fun z => absurd z (by decide))
  · rw [decide_eq_false h]
    exact kj_if_ne X tgt hdg ht (fun z => absurd rfl z) (fun z => kf h)
end
