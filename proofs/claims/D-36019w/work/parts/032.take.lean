/-! TAKE: counting what a player holds; a device is taken, or queued for -/
set_option maxRecDepth 100000
section
variable {G : kr_G} {l : Launch} {g g' : kr_Gh} {S S' : kr_St} {Z : kr_Ro → Option kr_AE}
theorem kr_S.lam {ad : kr_Ro → Nat} {σ : kr_Ro → Option kr_AE} {H : Heap} {i : kr_Ro} {e : kr_E} (h : kr_S G ad σ H) (hi : σ i = some (.inl e)) : kr_is G (ad i) e H := by
  obtain ⟨-, bk, h1, -⟩ := h
  exact (h1.1 (.inl i) e (kr_exp_c hi)).1
/-- a new passing thing -/
theorem kr_S.mk {H H1 : Heap} (h : kr_S G (gA g) (kr_cells G g S Z) H) (hT : kr_tmp (gA g)) {e : kr_E} (ha : kr_is G H.size e H1) (ho : kr_old G H.size) (u : kr_new H H1) : Z (40, H.size) = none ∧ kr_S G (gA g) (kr_cells G g S (kr_up Z (40, H.size) (some (.inl e)))) H1 := by
  have h0 := h.free (hT H.size).1
  refine ⟨by rwa [kc_Zt] at h0, ?_⟩
  have h1 := h.new (i := (40, H.size)) (ad' := gA g) (e := e) h0 (fun _ _ => rfl) (hT _).1 ha ho u
  rwa [kc_upt] at h1
/-- an object caught by a lambda's -/
abbrev kr_lam (k : Nat) (vs : List Value) : Option kr_AE := some (.inl (.inr (k, vs)))
theorem hr_take (hF : kr_F G l) (hT : kr_tmp (gA g)) {p q : Nat} (hp : sN S 15 p = 1) (hho : ∀ d, d < sN S 14 0 → ∀ j, sN S 9 d = j + 1 → sN S 15 j = 1) :
    ∀ (x : kr_X), kx_l x = l → kr_C G x yX1_countDevices cX1_countDevices 5 (some .int) { frames := 8, cells := 1, slots := 4, locals := 600 } [] → ∀ (Q : State → Prop) (lv : List (Option Value)) (n : Int32) (Z' : kr_Ro → Option kr_AE) (d : Nat), d < sN S 14 0 → (kr_up Z (40, q) (kr_lam 7 [.ref (gA g (7, p))]) (40, q) ≠ none → Z' (40, q) = kr_up Z (40, q) (kr_lam 7 [.ref (gA g (7, p))]) (40, q)) →
      kr_J G x 5 Q (kr_S G (gA g) (kr_cells G g S Z')) 1 4 41 lv [.int (kr_b (fHold S p d)), .int n] → kr_J G x 5 Q (kr_S G (gA g) (kr_cells G g S Z')) 1 4 36 lv [.ref (gA g (11, d)), .ref q, .int n] := by
  intro x hx X Q lv n Z' d hd hz kk
  have hz' : Z' (40, q) = kr_lam 7 [.ref (gA g (7, p))] := by
    have h := hz (by rw [kr_up_s]; exact fun z => by cases z)
    rw [h, kr_up_s]
  refine kj_lam1 X (k := 7) (by decide) kr_lok_7 (kr_lf1 (by simp)) (by decide +kernel) (w := ⟨"KioskReel$DeviceTest", "holds", "(LKioskReel$Device;)Z"⟩) (yS := yX1_lambda_take_3) (a := q) (b := gA g (11, d)) (rest := [.int n]) (count := 2) q381 q383 q382 (by decide +kernel) ⟨by decide, by decide, by decide +kernel⟩ (by decide +kernel) ⟨by decide, by decide, by decide +kernel⟩ q1399 q43 q1400 (mc := 0) (ms := 0) (ct_X1_lambda_take_3 X.F hp hd (hho d hd)) (fun v H h => ⟨_, h.1⟩) dX1_countDevices_36 (fun H h => ?_) rfl (Nat.le_of_ble_eq_true rfl) ⟨Nat.le_of_ble_eq_true rfl, Nat.le_of_ble_eq_true rfl⟩ ⟨Nat.le_refl _, Nat.le_refl _⟩ (fun v => ?_)
  · have h1 := h.lam (i := (40, q)) (by rw [kc_Zt]; exact hz')
    rwa [(hT q).1] at h1
  refine kj_and (fun e => ?_)
  subst e
  exact kk
theorem hr_stop (hF : kr_F G l) (hT : kr_tmp (gA g)) {p q : Nat} (hp : sN S 15 p = 1) (hho : ∀ d, d < sN S 14 0 → ∀ j, sN S 9 d = j + 1 → sN S 15 j = 1) :
    ∀ (x : kr_X), kx_l x = l → kr_C G x yX1_countDevices cX1_countDevices 5 (some .int) { frames := 8, cells := 1, slots := 4, locals := 600 } [] → ∀ (Q : State → Prop) (lv : List (Option Value)) (n : Int32) (Z' : kr_Ro → Option kr_AE) (d : Nat), d < sN S 14 0 → (kr_up Z (40, q) (kr_lam 3 [.ref (gA g (7, p))]) (40, q) ≠ none → Z' (40, q) = kr_up Z (40, q) (kr_lam 3 [.ref (gA g (7, p))]) (40, q)) →
      kr_J G x 5 Q (kr_S G (gA g) (kr_cells G g S Z')) 1 4 41 lv [.int (kr_b (fHold S p d)), .int n] → kr_J G x 5 Q (kr_S G (gA g) (kr_cells G g S Z')) 1 4 36 lv [.ref (gA g (11, d)), .ref q, .int n] := by
  intro x hx X Q lv n Z' d hd hz kk
  have hz' : Z' (40, q) = kr_lam 3 [.ref (gA g (7, p))] := by
    have h := hz (by rw [kr_up_s]; exact fun z => by cases z)
    rw [h, kr_up_s]
  refine kj_lam1 X (k := 3) (by decide) kr_lok_3 (kr_lf1 (by simp)) (by decide +kernel) (w := ⟨"KioskReel$DeviceTest", "holds", "(LKioskReel$Device;)Z"⟩) (yS := yX1_lambda_stop_0) (a := q) (b := gA g (11, d)) (rest := [.int n]) (count := 2) q381 q383 q382 (by decide +kernel) ⟨by decide, by decide, by decide +kernel⟩ (by decide +kernel) ⟨by decide, by decide, by decide +kernel⟩ q1211 q43 q1212 (mc := 0) (ms := 0) (ct_X1_lambda_stop_0 X.F hp hd (hho d hd)) (fun v H h => ⟨_, h.1⟩) dX1_countDevices_36 (fun H h => ?_) rfl (Nat.le_of_ble_eq_true rfl) ⟨Nat.le_of_ble_eq_true rfl, Nat.le_of_ble_eq_true rfl⟩ ⟨Nat.le_refl _, Nat.le_refl _⟩ (fun v => ?_)
  · have h1 := h.lam (i := (40, q)) (by rw [kc_Zt]; exact hz')
    rwa [(hT q).1] at h1
  refine kj_and (fun e => ?_)
  subst e
  exact kk
theorem hr_sp6 (hF : kr_F G l) (hT : kr_tmp (gA g)) {p q : Nat} (hp : sN S 15 p = 1) (hho : ∀ d, d < sN S 14 0 → ∀ j, sN S 9 d = j + 1 → sN S 15 j = 1) :
    ∀ (x : kr_X), kx_l x = l → kr_C G x yX1_countDevices cX1_countDevices 5 (some .int) { frames := 8, cells := 1, slots := 4, locals := 600 } [] → ∀ (Q : State → Prop) (lv : List (Option Value)) (n : Int32) (Z' : kr_Ro → Option kr_AE) (d : Nat), d < sN S 14 0 → (kr_up Z (40, q) (kr_lam 2 [.ref (gA g (7, p))]) (40, q) ≠ none → Z' (40, q) = kr_up Z (40, q) (kr_lam 2 [.ref (gA g (7, p))]) (40, q)) →
      kr_J G x 5 Q (kr_S G (gA g) (kr_cells G g S Z')) 1 4 41 lv [.int (kr_b (fHold S p d)), .int n] → kr_J G x 5 Q (kr_S G (gA g) (kr_cells G g S Z')) 1 4 36 lv [.ref (gA g (11, d)), .ref q, .int n] := by
  intro x hx X Q lv n Z' d hd hz kk
  have hz' : Z' (40, q) = kr_lam 2 [.ref (gA g (7, p))] := by
    have h := hz (by rw [kr_up_s]; exact fun z => by cases z)
    rw [h, kr_up_s]
  refine kj_lam1 X (k := 2) (by decide) kr_lok_2 (kr_lf1 (by simp)) (by decide +kernel) (w := ⟨"KioskReel$DeviceTest", "holds", "(LKioskReel$Device;)Z"⟩) (yS := yX1_lambda_isSoundPlayer_6) (a := q) (b := gA g (11, d)) (rest := [.int n]) (count := 2) q381 q383 q382 (by decide +kernel) ⟨by decide, by decide, by decide +kernel⟩ (by decide +kernel) ⟨by decide, by decide, by decide +kernel⟩ q466 q43 q467 (mc := 0) (ms := 0) (ct_X1_lambda_isSoundPlayer_6 X.F hp hd (hho d hd)) (fun v H h => ⟨_, h.1⟩) dX1_countDevices_36 (fun H h => ?_) rfl (Nat.le_of_ble_eq_true rfl) ⟨Nat.le_of_ble_eq_true rfl, Nat.le_of_ble_eq_true rfl⟩ ⟨Nat.le_refl _, Nat.le_refl _⟩ (fun v => ?_)
  · have h1 := h.lam (i := (40, q)) (by rw [kc_Zt]; exact hz')
    rwa [(hT q).1] at h1
  refine kj_and (fun e => ?_)
  subst e
  exact kk
theorem hr_sp5 (hF : kr_F G l) (hT : kr_tmp (gA g)) {p q : Nat} (hp : sN S 15 p = 1) (hqu : ∀ d, d < sN S 14 0 → ∀ j ∈ sL S 3 d, sN S 15 j = 1) :
    ∀ (x : kr_X), kx_l x = l → kr_C G x yX1_countDevices cX1_countDevices 5 (some .int) { frames := 8, cells := 1, slots := 4, locals := 600 } [] → ∀ (Q : State → Prop) (lv : List (Option Value)) (n : Int32) (Z' : kr_Ro → Option kr_AE) (d : Nat), d < sN S 14 0 → (kr_up Z (40, q) (kr_lam 1 [.ref (gA g (7, p))]) (40, q) ≠ none → Z' (40, q) = kr_up Z (40, q) (kr_lam 1 [.ref (gA g (7, p))]) (40, q)) →
      kr_J G x 5 Q (kr_S G (gA g) (kr_cells G g S Z')) 1 4 41 lv [.int (kr_b (fQueue S p d)), .int n] → kr_J G x 5 Q (kr_S G (gA g) (kr_cells G g S Z')) 1 4 36 lv [.ref (gA g (11, d)), .ref q, .int n] := by
  intro x hx X Q lv n Z' d hd hz kk
  have hz' : Z' (40, q) = kr_lam 1 [.ref (gA g (7, p))] := by
    have h := hz (by rw [kr_up_s]; exact fun z => by cases z)
    rw [h, kr_up_s]
  refine kj_lam1 X (k := 1) (by decide) kr_lok_1 (kr_lf1 (by simp)) (by decide +kernel) (w := ⟨"KioskReel$DeviceTest", "holds", "(LKioskReel$Device;)Z"⟩) (yS := yX1_lambda_isSoundPlayer_5) (a := q) (b := gA g (11, d)) (rest := [.int n]) (count := 2) q381 q383 q382 (by decide +kernel) ⟨by decide, by decide, by decide +kernel⟩ (by decide +kernel) ⟨by decide, by decide, by decide +kernel⟩ q409 q43 q410 (mc := 0) (ms := 0) (ct_X1_lambda_isSoundPlayer_5 X.F hp hd (hqu d hd)) (fun v H h => ⟨_, h.1⟩) dX1_countDevices_36 (fun H h => ?_) rfl (Nat.le_of_ble_eq_true rfl) ⟨Nat.le_of_ble_eq_true rfl, Nat.le_of_ble_eq_true rfl⟩ ⟨Nat.le_refl _, Nat.le_refl _⟩ (fun v => ?_)
  · have h1 := h.lam (i := (40, q)) (by rw [kc_Zt]; exact hz')
    rwa [(hT q).1] at h1
  refine kj_and (fun e => ?_)
  subst e
  exact kk
theorem hr_show1 (hF : kr_F G l) (hT : kr_tmp (gA g)) {k q : Nat} (hk : k < sN S 1 0) (hat : ∀ d, d < sN S 2 0 → sN S 10 d ≤ sN S 1 0) :
    ∀ (x : kr_X), kx_l x = l → kr_C G x yX1_countVisitors cX1_countVisitors 5 (some .int) { frames := 8, cells := 1, slots := 4, locals := 600 } [] → ∀ (Q : State → Prop) (lv : List (Option Value)) (n : Int32) (Z' : kr_Ro → Option kr_AE) (d : Nat), d < sN S 2 0 → (kr_up Z (40, q) (kr_lam 5 [.ref (gA g (5, k))]) (40, q) ≠ none → Z' (40, q) = kr_up Z (40, q) (kr_lam 5 [.ref (gA g (5, k))]) (40, q)) →
      kr_J G x 5 Q (kr_S G (gA g) (kr_cells G g S Z')) 1 4 41 lv [.int (kr_b (fAt S k d)), .int n] → kr_J G x 5 Q (kr_S G (gA g) (kr_cells G g S Z')) 1 4 36 lv [.ref (gA g (13, d)), .ref q, .int n] := by
  intro x hx X Q lv n Z' d hd hz kk
  have hz' : Z' (40, q) = kr_lam 5 [.ref (gA g (5, k))] := by
    have h := hz (by rw [kr_up_s]; exact fun z => by cases z)
    rw [h, kr_up_s]
  refine kj_lam1 X (k := 5) (by decide) kr_lok_5 (kr_lf1 (by simp)) (by decide +kernel) (w := ⟨"KioskReel$VisitorTest", "holds", "(LKioskReel$Visitor;)Z"⟩) (yS := yX1_lambda_show_1) (a := q) (b := gA g (13, d)) (rest := [.int n]) (count := 2) q1343 q1345 q1344 (by decide +kernel) ⟨by decide, by decide, by decide +kernel⟩ (by decide +kernel) ⟨by decide, by decide, by decide +kernel⟩ q1376 q43 q1377 (mc := 0) (ms := 0) (ct_X1_lambda_show_1 X.F hk hd (hat d hd)) (fun v H h => ⟨_, h.1⟩) dX1_countVisitors_36 (fun H h => ?_) rfl (Nat.le_of_ble_eq_true rfl) ⟨Nat.le_of_ble_eq_true rfl, Nat.le_of_ble_eq_true rfl⟩ ⟨Nat.le_refl _, Nat.le_refl _⟩ (fun v => ?_)
  · have h1 := h.lam (i := (40, q)) (by rw [kc_Zt]; exact hz')
    rwa [(hT q).1] at h1
  refine kj_and (fun e => ?_)
  subst e
  exact kk
theorem hr_alone (hF : kr_F G l) (hT : kr_tmp (gA g)) {k q : Nat} (hk : k < sN S 1 0) (hat : ∀ d, d < sN S 2 0 → sN S 10 d ≤ sN S 1 0) :
    ∀ (x : kr_X), kx_l x = l → kr_C G x yX1_countVisitors cX1_countVisitors 5 (some .int) { frames := 8, cells := 1, slots := 4, locals := 600 } [] → ∀ (Q : State → Prop) (lv : List (Option Value)) (n : Int32) (Z' : kr_Ro → Option kr_AE) (d : Nat), d < sN S 2 0 → (kr_up Z (40, q) (kr_lam 4 [.ref (gA g (5, k))]) (40, q) ≠ none → Z' (40, q) = kr_up Z (40, q) (kr_lam 4 [.ref (gA g (5, k))]) (40, q)) →
      kr_J G x 5 Q (kr_S G (gA g) (kr_cells G g S Z')) 1 4 41 lv [.int (kr_b (fAt S k d)), .int n] → kr_J G x 5 Q (kr_S G (gA g) (kr_cells G g S Z')) 1 4 36 lv [.ref (gA g (13, d)), .ref q, .int n] := by
  intro x hx X Q lv n Z' d hd hz kk
  have hz' : Z' (40, q) = kr_lam 4 [.ref (gA g (5, k))] := by
    have h := hz (by rw [kr_up_s]; exact fun z => by cases z)
    rw [h, kr_up_s]
  refine kj_lam1 X (k := 4) (by decide) kr_lok_4 (kr_lf1 (by simp)) (by decide +kernel) (w := ⟨"KioskReel$VisitorTest", "holds", "(LKioskReel$Visitor;)Z"⟩) (yS := yX11_lambda_act_0) (a := q) (b := gA g (13, d)) (rest := [.int n]) (count := 2) q1343 q1345 q1344 (by decide +kernel) ⟨by decide, by decide, by decide +kernel⟩ (by decide +kernel) ⟨by decide, by decide, by decide +kernel⟩ q1336 q69 q1337 (mc := 0) (ms := 0) (ct_X11_lambda_act_0 X.F hk hd (hat d hd)) (fun v H h => ⟨_, h.1⟩) dX1_countVisitors_36 (fun H h => ?_) rfl (Nat.le_of_ble_eq_true rfl) ⟨Nat.le_of_ble_eq_true rfl, Nat.le_of_ble_eq_true rfl⟩ ⟨Nat.le_refl _, Nat.le_refl _⟩ (fun v => ?_)
  · have h1 := h.lam (i := (40, q)) (by rw [kc_Zt]; exact hz')
    rwa [(hT q).1] at h1
  refine kj_and (fun e => ?_)
  subst e
  exact kk
theorem hr_show2 (hF : kr_F G l) (hT : kr_tmp (gA g)) {k s q : Nat} (hk : k < sN S 1 0) (hs : s < 100) (hb : ∀ d, d < sN S 2 0 → sN S (d + 100) s < 2) (hat : ∀ d, d < sN S 2 0 → sN S 10 d ≤ sN S 1 0) :
    ∀ (x : kr_X), kx_l x = l → kr_C G x yX1_countVisitors cX1_countVisitors 5 (some .int) { frames := 8, cells := 1, slots := 4, locals := 600 } [] → ∀ (Q : State → Prop) (lv : List (Option Value)) (n : Int32) (Z' : kr_Ro → Option kr_AE) (d : Nat), d < sN S 2 0 → (kr_up Z (40, q) (kr_lam 6 [.ref (gA g (5, k)), .int (nI s)]) (40, q) ≠ none → Z' (40, q) = kr_up Z (40, q) (kr_lam 6 [.ref (gA g (5, k)), .int (nI s)]) (40, q)) →
      kr_J G x 5 Q (kr_S G (gA g) (kr_cells G g S Z')) 1 4 41 lv [.int (kr_b (fSee S k s d)), .int n] → kr_J G x 5 Q (kr_S G (gA g) (kr_cells G g S Z')) 1 4 36 lv [.ref (gA g (13, d)), .ref q, .int n] := by
  intro x hx X Q lv n Z' d hd hz kk
  have hz' : Z' (40, q) = kr_lam 6 [.ref (gA g (5, k)), .int (nI s)] := by
    have h := hz (by rw [kr_up_s]; exact fun z => by cases z)
    rw [h, kr_up_s]
  refine kj_lam2 X (k := 6) (by decide) kr_lok_6 kr_lf20 kr_lf21 (by decide +kernel) (w := ⟨"KioskReel$VisitorTest", "holds", "(LKioskReel$Visitor;)Z"⟩) (yS := yX1_lambda_show_2) (a := q) (b := gA g (13, d)) (rest := [.int n]) (count := 2) q1343 q1345 q1344 (by decide +kernel) ⟨by decide, by decide, by decide +kernel⟩ (by decide +kernel) ⟨by decide, by decide, by decide +kernel⟩ q1379 q43 q1380 (mc := 0) (ms := 0) (ct_X1_lambda_show_2 X.F hk hd (hat d hd) hs (hb d hd)) (fun v H h => ⟨_, h.1⟩) dX1_countVisitors_36 (fun H h => ?_) rfl (Nat.le_of_ble_eq_true rfl) ⟨Nat.le_of_ble_eq_true rfl, Nat.le_of_ble_eq_true rfl⟩ ⟨Nat.le_refl _, Nat.le_refl _⟩ (fun v => ?_)
  · have h1 := h.lam (i := (40, q)) (by rw [kc_Zt]; exact hz')
    rwa [(hT q).1] at h1
  refine kj_and (fun e => ?_)
  subst e
  exact kk
end
