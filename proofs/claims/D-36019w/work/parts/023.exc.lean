/-! EXCEPTIONS thrown by the class' own methods: 'throw new E()' -/
set_option maxRecDepth 100000
def kr_up3 : List String := ["java/lang/RuntimeException", "java/lang/Exception"]
/-- words that go along with warmer tables -/
def kr_mv : Cond → Bool
  | .declares _ => true
  | .castable _ _ => true
  | w => goodWord w
def kr_mvt (w : Cond) : Prop := w ∈ lw_tbl ∧ kr_mv w = true ∧ vx_ot w = true
theorem kr_mvts {ws : List Cond} (ps : List Nat) (hp : ws = ps.filterMap (fun i => lw_tbl[i]?)) (hg : ws.all (fun w => kr_mv w && vx_ot w) = true) : ∀ w ∈ ws, kr_mvt w := by
  intro w hw
  have h1 := List.all_eq_true.mp hg w hw
  simp only [Bool.and_eq_true] at h1
  refine ⟨?_, h1.1, h1.2⟩
  rw [hp] at hw
  obtain ⟨i, -, hi⟩ := List.mem_filterMap.mp hw
  exact List.mem_of_getElem? hi
section
variable {G : kr_G} {x : kr_X} {y : MethodName} {cc : ByteArray} {nL : Nat} {ret : Option FieldType} {rm : Room} {hh : List (Nat × Nat × Nat × Nat)} {Q : State → Prop} {P P' : Heap → Prop} {cs ss pc : Nat} {lv lv' : List (Option Value)} {st : List Value}
theorem kr_C.decl (X : kr_C G x y cc nL ret rm hh) {z : MethodName} (hw : Cond.declares z ∈ lw_tbl) : va_Nw (.declares z) (kx_s x) := by
  obtain ⟨⟨b0, h1, -⟩, -⟩ := X.F
  exact va_Nw.warmD X.warm (va_Nw.of rfl (h1 _ hw))
theorem kr_C.mv (X : kr_C G x y cc nL ret rm hh) {w : Cond} (h : w ∈ lw_tbl) (g : kr_mv w = true) : w.before (kx_a x) (kx_s x) = true := by
  have base : goodWord w = true → w.before (kx_a x) (kx_s x) = true := fun e => X.hts w (List.mem_filter.mpr ⟨h, e⟩)
  cases w
  case declares z => exact va_Nw.use rfl (X.decl h)
  case castable A B => exact va_Nw.use rfl (X.cast h)
  all_goals exact base g
theorem kf_U {l : Launch} (hF : kr_F G l) : vx_Zq Bundle.tN "UNASSIGNED_STACK" Bundle.steD (kr_old G) (kg_s G) (kg_s G).heap := by
  obtain ⟨b, h1, h2⟩ := kf_given hF
  exact vx_Zqof (args := #[Value.ref b]) (h1 _ q339) (h1 _ (lw_all_tbl q53)) (h2 (.isRef (.static "java/lang/Throwable" "UNASSIGNED_STACK" "[Ljava/lang/StackTraceElement;")) (by decide +kernel)) kf_old
theorem kf_N {l : Launch} (hF : kr_F G l) : vx_Zq Bundle.tN "SUPPRESSED_SENTINEL" Bundle.listD (kr_old G) (kg_s G) (kg_s G).heap := by
  obtain ⟨b, h1, h2⟩ := kf_given hF
  exact vx_Zqof (args := #[Value.ref b]) (h1 _ q341) (h1 _ (lw_all_tbl q53)) (h2 (.isRef (.static "java/lang/Throwable" "SUPPRESSED_SENTINEL" "Ljava/util/List;")) (by decide +kernel)) kf_old
theorem kr_C.zq (X : kr_C G x y cc nL ret rm hh) {C n d : String} (h : vx_Zq C n d (kr_old G) (kg_s G) (kg_s G).heap) : vx_Zq C n d (kr_old G) (kx_s x) (kx_s x).heap :=
  (h.moved X.warm.alike).kept fun q h1 _ => X.base.2 q h1
theorem kf_tr {l : Launch} (hF : kr_F G l) : l.stackTraces = false := by
  have h : l.flags = flags0 := hF.2.1
  unfold Launch.stackTraces
  rw [h]
  decide +kernel
/-- throw new E() -/
theorem kj_throw0 (X : kr_C G x y cc nL ret rm []) {mc ms : Nat} {Po : Option Value → Heap → Prop} {Px : String → Heap → Prop} {cls : String} {ik ic : Nat} (hcls : Bundle.fit cls = true)
    (hk : Cond.classLink y.cls ik cls ∈ lw_all) (hini : Cond.initialized cls ∈ lw_all) (hat : ∀ w ∈ vx_at0 y.cls ic cls kr_up3, kr_mvt w)
    (d0 : decode cc pc = .ok (.new ik, 3)) (d3 : decode cc (pc + 3) = .ok (.dup, 1)) (d4 : decode cc (pc + 4) = .ok (.invokespecial ic, 3)) (d7 : decode cc (pc + 7) = .ok (.athrow, 1))
    (hR : 5 < rm.frames ∧ (st.map fun v => v.category).sum + 81 ≤ rm.locals) (hr : cs + 1 ≤ mc ∧ ss + 6 ≤ ms) (hm : mc ≤ rm.cells ∧ ms ≤ rm.slots)
    (hpx : ∀ H H1 : Heap, P H → H.size ≤ H1.size → (∀ q : Nat, q < H.size → H1[q]? = H[q]?) → Px cls H1) : kr_J G x nL (kr_Q G x mc ms Po Px) P cs ss pc lv st := fun H locs ls hP hS hl => by
  have hw := X.room
  have hot : ∀ w : Cond, w ∈ lw_all → vx_ot w = true := fun w hw => by
    have h1 := (List.mem_filter.mp hw).2
    simp only [vx_ot, Bool.or_eq_true]
    exact Or.inr h1
  refine vx_throw0 (names := kr_up3) X.1 X.2.1 (kf_tr X.F) X.2.2.2.1 hcls (by decide +kernel) (X.hts _ hk) (X.hts _ hini) (fun w h => X.mv (hat w h).1 (hat w h).2.1) (fun w h => ?_) (X.zq (kf_U X.F)) (X.zq (kf_N X.F)) hS (by rw [hl.1]; exact X.2.2.1.symm) d0 d3 d4 d7 (fun z hz => by rw [X.tab] at hz; cases hz) ?_ ?_ ?_ ?_ X.locks (fun t _ h1 h2 => ⟨hpx H _ hP h1 h2, ?_⟩) hS.2.2 hr.1 hr.2
  · rcases List.mem_cons.mp h with rfl | h
    · exact hot _ hk
    · rcases List.mem_cons.mp h with rfl | h
      · exact hot _ hini
      · exact (hat w h).2.2
  · show kr_up3.length + 3 < (kx_R x).frames
    rw [hw]
    exact hR.1
  · show _ ≤ (kx_R x).locals
    rw [hw]
    exact hR.2
  · show _ ≤ (kx_R x).cells
    rw [hw]
    omega
  · show _ ≤ (kx_R x).slots
    rw [hw]
    omega
  · exact ⟨Nat.le_trans hS.1 h1, fun q g1 g2 => (h2 q (Nat.lt_of_lt_of_le g1 hS.1)).trans (hS.2.1 q g1 g2)⟩
/-- a longer heap -/
theorem kr_S.ext {ad : kr_Ro → Nat} {σ : kr_Ro → Option kr_AE} {H H1 : Heap} (h : kr_S G ad σ H) (hq : ∀ q : Nat, q < H.size → H1[q]? = H[q]?) : kr_S G ad σ H1 := by
  obtain ⟨h0, bk, ⟨h1, h3⟩, h2⟩ := h
  exact ⟨h0, bk, ⟨fun i e hi => ⟨(h1 i e hi).1.kept (hq _ (h1 i e hi).1.lt), (h1 i e hi).2⟩, h3⟩, h2⟩
end
theorem kx_IOOBE : ∀ w ∈ vx_at0 "KioskReel" 3 "java/lang/IndexOutOfBoundsException" kr_up3, kr_mvt w := kr_mvts [53, 334, 343, 351, 354, 356, 335, 336, 95, 96, 337, 342, 352, 369, 324, 370, 326, 371, 328, 338, 340, 330, 581, 582, 583, 361, 315, 361, 362, 363, 364, 317, 364, 365, 366, 335, 319, 580, 572, 573, 574, 350, 575, 576, 577, 578, 333, 332, 579] (by decide +kernel) (by decide +kernel)
theorem kx_IAE : ∀ w ∈ vx_at0 "KioskReel" 9 "java/lang/IllegalArgumentException" kr_up3, kr_mvt w := kr_mvts [53, 334, 343, 351, 354, 356, 335, 336, 95, 96, 337, 342, 352, 369, 324, 370, 326, 371, 328, 338, 340, 330, 710, 711, 712, 361, 315, 361, 362, 363, 364, 317, 364, 365, 366, 335, 319, 709, 701, 702, 703, 348, 704, 705, 706, 707, 333, 332, 708] (by decide +kernel) (by decide +kernel)
theorem kx_ISE : ∀ w ∈ vx_at0 "KioskReel" 12 "java/lang/IllegalStateException" kr_up3, kr_mvt w := kr_mvts [53, 334, 343, 351, 354, 356, 335, 336, 95, 96, 337, 342, 352, 369, 324, 370, 326, 371, 328, 338, 340, 330, 499, 500, 501, 361, 315, 361, 362, 363, 364, 317, 364, 365, 366, 335, 319, 498, 490, 491, 492, 349, 493, 494, 495, 496, 333, 332, 497] (by decide +kernel) (by decide +kernel)
theorem kx_NSEE : ∀ w ∈ vx_at0 "KioskReel" 15 "java/util/NoSuchElementException" kr_up3, kr_mvt w := kr_mvts [53, 334, 343, 351, 354, 356, 335, 336, 95, 96, 337, 342, 352, 369, 324, 370, 326, 371, 328, 338, 340, 330, 358, 359, 360, 361, 315, 361, 362, 363, 364, 317, 364, 365, 366, 335, 319, 1197, 313, 314, 321, 322, 323, 325, 327, 329, 333, 332, 331] (by decide +kernel) (by decide +kernel)
theorem kx_AE : ∀ w ∈ vx_at0 "KioskReel" 372 "java/lang/ArithmeticException" kr_up3, kr_mvt w := kr_mvts [53, 334, 343, 351, 354, 356, 335, 336, 95, 96, 337, 342, 352, 369, 324, 370, 326, 371, 328, 338, 340, 330, 1544, 1545, 1546, 361, 315, 361, 362, 363, 364, 317, 364, 365, 366, 335, 319, 1543, 1523, 1534, 1535, 345, 1529, 1530, 1532, 1528, 333, 332, 1527] (by decide +kernel) (by decide +kernel)
/-- what stays true when the heap grows -/
def kr_mono (P : Heap → Prop) : Prop := ∀ H H1 : Heap, P H → H.size ≤ H1.size → (∀ q : Nat, q < H.size → H1[q]? = H[q]?) → P H1
theorem kr_S.mono {G : kr_G} {ad : kr_Ro → Nat} {σ : kr_Ro → Option kr_AE} : kr_mono (kr_S G ad σ) := fun _ _ h _ h2 => h.ext h2
theorem ct_X1_requireIndex {G : kr_G} {l : Launch} (hF : kr_F G l) (i n : Int32) (P : Heap → Prop) (hP : kr_mono P) : kr_T G l yX1_requireIndex (ws_ yX1_requireIndex cX1_requireIndex 2 (Option.none : Option Jvm.ClassFile.FieldType)) 6 200 [.int i, .int n] P 1 6 (fun v H => (0 ≤ i ∧ i < n) ∧ v = none ∧ P H) (fun E H => ¬ (0 ≤ i ∧ i < n) ∧ E = "java/lang/IndexOutOfBoundsException" ∧ P H) := by
  refine kr_T.of (by decide +kernel) hF (by simp [Value.category]) (Nat.le_of_ble_eq_true rfl) fun x hx X => ?_
  refine kj_iload_n X dX1_requireIndex_0 rfl rfl ?_
  refine kj_if_lt X 9 dX1_requireIndex_1 (by decide) (fun c_1 => ?_) (fun c_1 => ?_)
  · exact kj_throw0 X (by decide +kernel) q571 q58 kx_IOOBE dX1_requireIndex_9 dX1_requireIndex_12 dX1_requireIndex_13 dX1_requireIndex_16 ⟨Nat.le_of_ble_eq_true rfl, Nat.le_of_ble_eq_true rfl⟩ ⟨by omega, by omega⟩ ⟨Nat.le_refl _, Nat.le_refl _⟩ (fun H H1 h h1 h2 => ⟨fun z => absurd c_1 (Int32.not_lt.mpr z.1), rfl, hP H H1 h h1 h2⟩)
  refine kj_iload_n X dX1_requireIndex_4 rfl rfl ?_
  refine kj_iload_n X dX1_requireIndex_5 rfl rfl ?_
  refine kj_icmp_lt X 17 dX1_requireIndex_6 (by decide) (fun c_6 => ?_) (fun c_6 => ?_)
  · exact kj_vret X dX1_requireIndex_17 (by omega) (by omega) (fun H h => ⟨⟨Int32.not_lt.mp c_1, c_6⟩, rfl, h⟩)
  · exact kj_throw0 X (by decide +kernel) q571 q58 kx_IOOBE dX1_requireIndex_9 dX1_requireIndex_12 dX1_requireIndex_13 dX1_requireIndex_16 ⟨Nat.le_of_ble_eq_true rfl, Nat.le_of_ble_eq_true rfl⟩ ⟨by omega, by omega⟩ ⟨Nat.le_refl _, Nat.le_refl _⟩ (fun H H1 h h1 h2 => ⟨fun z => c_6 z.2, rfl, hP H H1 h h1 h2⟩)
theorem ct_X1_requireValid {G : kr_G} {l : Launch} (hF : kr_F G l) (b : Bool) (P : Heap → Prop) (hP : kr_mono P) : kr_T G l yX1_requireValid (ws_ yX1_requireValid cX1_requireValid 1 (Option.none : Option Jvm.ClassFile.FieldType)) 6 200 [.int (kr_b b)] P 1 6 (fun v H => b = true ∧ v = none ∧ P H) (fun E H => b = false ∧ E = "java/lang/IllegalArgumentException" ∧ P H) := by
  refine kr_T.of (by decide +kernel) hF (by simp [Value.category]) (Nat.le_of_ble_eq_true rfl) fun x hx X => ?_
  refine kj_iload_n X dX1_requireValid_0 rfl rfl ?_
  refine kj_if_ne X 12 dX1_requireValid_1 (by decide) (fun c_1 => ?_) (fun c_1 => ?_)
  · exact kj_vret X dX1_requireValid_12 (by omega) (by omega) (fun H h => ⟨by cases b with | true => rfl | false => exact absurd rfl c_1, rfl, h⟩)
  · exact kj_throw0 X (by decide +kernel) q700 q73 kx_IAE dX1_requireValid_4 dX1_requireValid_7 dX1_requireValid_8 dX1_requireValid_11 ⟨Nat.le_of_ble_eq_true rfl, Nat.le_of_ble_eq_true rfl⟩ ⟨by omega, by omega⟩ ⟨Nat.le_refl _, Nat.le_refl _⟩ (fun H H1 h h1 h2 => ⟨by cases b with | false => rfl | true => exact absurd c_1 (by decide), rfl, hP H H1 h h1 h2⟩)
theorem ct_X1_requireState {G : kr_G} {l : Launch} (hF : kr_F G l) (b : Bool) (P : Heap → Prop) (hP : kr_mono P) : kr_T G l yX1_requireState (ws_ yX1_requireState cX1_requireState 1 (Option.none : Option Jvm.ClassFile.FieldType)) 6 200 [.int (kr_b b)] P 1 6 (fun v H => b = true ∧ v = none ∧ P H) (fun E H => b = false ∧ E = "java/lang/IllegalStateException" ∧ P H) := by
  refine kr_T.of (by decide +kernel) hF (by simp [Value.category]) (Nat.le_of_ble_eq_true rfl) fun x hx X => ?_
  refine kj_iload_n X dX1_requireState_0 rfl rfl ?_
  refine kj_if_ne X 12 dX1_requireState_1 (by decide) (fun c_1 => ?_) (fun c_1 => ?_)
  · exact kj_vret X dX1_requireState_12 (by omega) (by omega) (fun H h => ⟨by cases b with | true => rfl | false => exact absurd rfl c_1, rfl, h⟩)
  · exact kj_throw0 X (by decide +kernel) q489 q56 kx_ISE dX1_requireState_4 dX1_requireState_7 dX1_requireState_8 dX1_requireState_11 ⟨Nat.le_of_ble_eq_true rfl, Nat.le_of_ble_eq_true rfl⟩ ⟨by omega, by omega⟩ ⟨Nat.le_refl _, Nat.le_refl _⟩ (fun H H1 h h1 h2 => ⟨by cases b with | false => rfl | true => exact absurd c_1 (by decide), rfl, hP H H1 h h1 h2⟩)
theorem ct_X1_requireElement {G : kr_G} {l : Launch} (hF : kr_F G l) (b : Bool) (P : Heap → Prop) (hP : kr_mono P) : kr_T G l yX1_requireElement (ws_ yX1_requireElement cX1_requireElement 1 (Option.none : Option Jvm.ClassFile.FieldType)) 6 200 [.int (kr_b b)] P 1 6 (fun v H => b = true ∧ v = none ∧ P H) (fun E H => b = false ∧ E = "java/util/NoSuchElementException" ∧ P H) := by
  refine kr_T.of (by decide +kernel) hF (by simp [Value.category]) (Nat.le_of_ble_eq_true rfl) fun x hx X => ?_
  refine kj_iload_n X dX1_requireElement_0 rfl rfl ?_
  refine kj_if_ne X 12 dX1_requireElement_1 (by decide) (fun c_1 => ?_) (fun c_1 => ?_)
  · exact kj_vret X dX1_requireElement_12 (by omega) (by omega) (fun H h => ⟨by cases b with | true => rfl | false => exact absurd rfl c_1, rfl, h⟩)
  · exact kj_throw0 X (by decide +kernel) q1196 q82 kx_NSEE dX1_requireElement_4 dX1_requireElement_7 dX1_requireElement_8 dX1_requireElement_11 ⟨Nat.le_of_ble_eq_true rfl, Nat.le_of_ble_eq_true rfl⟩ ⟨by omega, by omega⟩ ⟨Nat.le_refl _, Nat.le_refl _⟩ (fun H H1 h h1 h2 => ⟨by cases b with | false => rfl | true => exact absurd c_1 (by decide), rfl, hP H H1 h h1 h2⟩)
