/-! heldShare -/
set_option maxRecDepth 100000
section
variable {G : kr_G} {x : kr_X} {y : MethodName} {cc : ByteArray} {nL : Nat} {ret : Option FieldType} {rm : Room} {hh : List (Nat × Nat × Nat × Nat)} {Q : State → Prop} {P P' : Heap → Prop} {cs ss pc : Nat} {lv lv' : List (Option Value)} {st : List Value}
/-- ldc_w of a float -/
theorem kj_ldcwf (X : kr_C G x y cc nL ret rm hh) {index : Nat} {v : UInt32} (hw : Jvm.Cond.constantFloat y.cls index v ∈ lw_all) (hdg : decode cc pc = .ok (.ldc_w index, 3)) (k : kr_J G x nL Q P cs ss (pc + 3) lv (.float v :: st)) : kr_J G x nL Q P cs ss pc lv st := fun H locs ls hP hS hl => by
  intro T hT X0
  obtain ⟨t, a, b⟩ := k H locs ls hP hS hl T hT X0
  refine ⟨t, ?_, b⟩
  obtain ⟨kc, cf, hk, hcf, hcp⟩ := Cond.constantFloat_spec X.2.2.2.1 (X.hts _ hw)
  obtain ⟨k', hk', he⟩ := X0.warmed.alike.2.2 _ _ hk
  have hdg' : decode (kx_c x).code (F0 (kx_m x) pc ls st).pc = .ok (.ldc_w index, 3) := by rw [X.2.1]; exact hdg
  jvm_step X0.here [X.1, hdg', ldc_w.wp_float (s := T) (f := F0 (kx_m x) pc ls st) X0.here.top hk' (by rw [he]; exact hcf) hcp]
  exact a
end
/-- the share of six -/
def fShare (n : Nat) : UInt32 := FP.fdiv (FP.i2f (nI n)) 1086324736
theorem fShare_ok {n : Nat} (h : n ≤ 6) : vf_n32 (fShare n) := by
  rcases (show n = 0 ∨ n = 1 ∨ n = 2 ∨ n = 3 ∨ n = 4 ∨ n = 5 ∨ n = 6 by omega) with rfl | rfl | rfl | rfl | rfl | rfl | rfl <;> (unfold vf_n32 fShare; decide +kernel)
section
variable {G : kr_G} {l : Launch} {g g' : kr_Gh} {S S' : kr_St} {Z Z' : kr_Ro → Option kr_AE}
def nAll (S : kr_St) : Nat := (List.range (sN S 14 0)).countP (fHeld S)
theorem ct_X1_heldShare (hF : kr_F G l) (hg : kr_gok g) (hD : sN S 14 0 = 6) : kr_T G l yX1_heldShare (ws_ yX1_heldShare cX1_heldShare 1 (Option.some Jvm.ClassFile.FieldType.float)) 10 3200 [.ref (gA g (0, 0))] (kr_S G (gA g) (kr_cells G g S Z)) 1 4 (fun v H => v = some (.float (fShare (nAll S))) ∧ kr_S G (gA g) (kr_cells G g S Z) H) kr_no := by
  have hle : nAll S ≤ 6 := by
    unfold nAll
    refine Nat.le_trans List.countP_le_length ?_
    rw [List.length_range, hD]
    exact Nat.le_refl _
  refine kr_T.of (by decide +kernel) hF (by simp [Value.category]) (Nat.le_of_ble_eq_true rfl) (fun x hx X => ?_)
  refine kj_aload_n X dX1_heldShare_0 rfl rfl (by first | exact ⟨some _, rfl⟩ | exact ⟨none, rfl⟩ | exact ⟨_, rfl⟩) ?_
  refine kj_indy0 X (k := 0) (by decide) (by decide +kernel) (by decide +kernel) (by decide +kernel) dX1_heldShare_1 ⟨Nat.le_of_ble_eq_true rfl, Nat.le_of_ble_eq_true rfl⟩ (fun a cell h1 h2 h3 => ?_)
  have hrow : ∀ (x1 : kr_X), kx_l x1 = kx_l x → kr_C G x1 yX1_countDevices cX1_countDevices 5 (some .int) { frames := 8, cells := 1, slots := 4, locals := 600 } [] → ∀ (Q : State → Prop) (lv : List (Option Value)) (n : Int32) (Z' : kr_Ro → Option kr_AE) (d : Nat), d < sN S 14 0 → (Z (40, a) ≠ none → Z' (40, a) = Z (40, a)) →
      kr_J G x1 5 Q (kr_S G (gA g) (kr_cells G g S Z')) 1 4 41 lv [.int (kr_b (fHeld S d)), .int n] → kr_J G x1 5 Q (kr_S G (gA g) (kr_cells G g S Z')) 1 4 36 lv [.ref (gA g (11, d)), .ref a, .int n] := by
    intro x1 hx1 X1 Q lv n Z' d hd hz kk
    refine kj_lam0 X1 (k := 0) (by decide) kr_lok_0 (by decide +kernel) (w := ⟨"KioskReel$DeviceTest", "holds", "(LKioskReel$Device;)Z"⟩) (yS := yX1_lambda_heldShare_4) (a := a) (b := gA g (11, d)) (rest := [.int n]) (count := 2) q381 q383 q382 (by decide +kernel) ⟨by decide, by decide, by decide +kernel⟩ (by decide +kernel) ⟨by decide, by decide, by decide +kernel⟩ q255 q43 q256 (mc := 0) (ms := 0) (ct_X1_lambda_heldShare_4 X1.F hd) (fun v H h => ⟨_, h.1⟩) dX1_countDevices_36 h1 h2 h3 rfl (Nat.le_of_ble_eq_true rfl) ⟨Nat.le_of_ble_eq_true rfl, Nat.le_of_ble_eq_true rfl⟩ ⟨Nat.le_refl _, Nat.le_refl _⟩ (fun v => ?_)
    refine kj_and (fun e => ?_)
    subst e
    exact kk
  refine kj_callV X 1 (ct_X1_countDevices X.F hg (by omega) hrow) (lw_V q257 q259 qs3 q43 q260) ⟨rfl, by decide, by decide, by decide +kernel⟩ dX1_heldShare_6 rfl rfl (by first | exact Nat.le_of_ble_eq_true rfl | simp [kr_cat, Value.category]) ⟨Nat.le_of_ble_eq_true rfl, Nat.le_of_ble_eq_true rfl⟩ ⟨by dsimp only; omega, by dsimp only; omega⟩ kc_X1.1 (fun H h => h.rc (kc_kio)) (fun E => kjx_no) (fun v_6 => ?_)
  refine kj_and (fun e_6 => ?_)
  subst e_6
  refine kj_i2f X dX1_heldShare_9 ?_
  refine kj_ldcwf X q384 dX1_heldShare_10 ?_
  refine kj_fdiv X dX1_heldShare_13 (fShare_ok hle) ?_
  exact kj_fret X dX1_heldShare_14 (by omega) (by omega) (fun H h => ⟨rfl, h⟩)
end
