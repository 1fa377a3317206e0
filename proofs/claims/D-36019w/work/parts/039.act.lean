/-! ACT: a line does what it does, whatever its class -/
set_option maxRecDepth 100000
/-- a line's number -/
def kr_num (c : Nat) (n : Int32) : Prop := 8 ≤ c ∧ c ≤ 16 ∧ ∃ m, n = nI m ∧ m < 100 ∧ (c = 10 ∨ c = 11 → m < 6) ∧ (c = 12 ∨ c = 13 ∨ c = 14 → m ≤ 20) ∧ (c = 16 → m < 8)
/-- a frame -/
def kr_fr (S : kr_St) (f : Nat) : Prop := sN S 11 f < sN S 0 0 ∧ (sL S 4 f).length ≤ 20 ∧ (∀ q ∈ sL S 4 f, 8 ≤ sN S 12 q ∧ sN S 12 q ≤ 16) ∧ ∃ n, n ≤ 20 ∧ sI S 5 f = nI n
/-- a player -/
def kr_pl (S : kr_St) (p : Nat) : Prop := p < sN S 1 0 ∧ (0 < sN S 5 p ∧ sN S 5 p ≤ 4) ∧ (sN S 8 p < 2 ∧ nQueue S p = sN S 8 p) ∧ sN S 4 p ≤ sN S 1 0 ∧ ∀ d, d < sN S 5 p → kr_fr S (4 * p + d)
/-- what is true between any two lines -/
def kr_V (S : kr_St) : Prop :=
  (sN S 0 0 ≤ 8 ∧ sN S 1 0 ≤ 6 ∧ sN S 2 0 ≤ 10 ∧ sN S 14 0 = 6) ∧ kr_I S ∧ (∀ i, i < sN S 0 0 → (sL S 0 i).length ≤ 20 ∧ sL S 1 i = sL S 0 i) ∧ (∀ q, sN S 12 q ≠ 0 → kr_num (sN S 12 q) (sI S 6 q)) ∧ (∀ p, sN S 15 p = 1 → kr_pl S p) ∧
  (∀ d, d < 6 → (∀ j, sN S 9 d = j + 1 → sN S 15 j = 1) ∧ (sL S 3 d).Nodup ∧ (sL S 3 d).length ≤ 6) ∧ ∀ v, v < sN S 2 0 → sN S 10 v ≤ sN S 1 0 ∧ ∀ s, s < 100 → sN S (v + 100) s < 2
/-- what a line does; does the turn go on -/
def oAct (S : kr_St) (p k q : Nat) : kr_St × Bool :=
  if sN S 12 q = 8 then (oShow S k (sI S 6 q).toNatClampNeg, fSkip S k (sI S 6 q).toNatClampNeg)
  else if sN S 12 q = 9 then (uI S 2 p (sI S 6 q - 1), false)
  else if sN S 12 q = 10 then (oTake S p (sI S 6 q).toNatClampNeg, decide (sN (oTake S p (sI S 6 q).toNatClampNeg) 8 p = 0))
  else if sN S 12 q = 11 then (oFree S p (sI S 6 q).toNatClampNeg, true)
  else if sN S 12 q = 12 then (uI S 5 (kt_top S p) (sI S 6 q), true)
  else if sN S 12 q = 13 then (oAlone S p k q, true)
  else if sN S 12 q = 14 then (if sI S 1 p = 0 then uI S 5 (kt_top S p) (sI S 6 q) else uI S 1 p (sI S 1 p - 1), true)
  else if sN S 12 q = 15 then (uI S 1 p (sI S 6 q), true)
  else (oPush S p (sI S 6 q).toNatClampNeg, true)
section
variable {G : kr_G} {x : kr_X} {y : MethodName} {cc : ByteArray} {nL : Nat} {ret : Option FieldType} {rm : Room} {hh : List (Nat × Nat × Nat × Nat)} {Q : State → Prop} {P P' : Heap → Prop} {cs ss pc : Nat} {lv lv' : List (Option Value)} {st : List Value}
/-- invokevirtual of an abstract class' method -/
theorem kj_callA (X : kr_C G x y cc nL ret rm hh) {w z : MethodName} {bytes : ByteArray} {maxL F L mc ms index ci N b : Nat} {ret' : Option FieldType} {C : String} {T : u_T} {As rest : List Value} {Po : Option Value → Heap → Prop} {Px : String → Heap → Prop} (n : Nat)
    (hT : kr_T G (kx_l x) z (ws_ z bytes maxL ret') F L (.ref b :: As) P mc ms Po Px) (hlink : Cond.methodLink y.cls index w ∈ lw_all) (hsame : Cond.sameMethod w.cls w.cls w.name w.desc ∈ lw_all) (hdec : Cond.declares w ∈ lw_tbl) (hsel : Cond.selects C w z ∈ lw_all) (hinst : Cond.instanceMethod z ∈ lw_all) (hini : Cond.initialized z.cls ∈ lw_all) (hw : Cond.code z bytes maxL ret' ∈ lw_all)
    (hd : w.cls ≠ "java/lang/invoke/MethodHandle" ∧ w.cls ≠ "java/lang/invoke/VarHandle" ∧ (parseMethodDescriptor w.desc).map (fun d => d.parameters.length) = some n) (hdg : decode cc pc = .ok (.invokevirtual index, 3))
    (hst : st = As.reverse ++ .ref b :: rest) (hn : As.length = n) (hlow : (rest.map fun v => v.category).sum ≤ 8) (hR : F + 1 ≤ rm.frames ∧ 8 + (maxL + 11) + L ≤ rm.locals) (hroom : cs + mc ≤ rm.cells ∧ ss + ms ≤ rm.slots)
    (hc : kr_cl[ci]? = some (C, T, N)) (hrecv : ∀ H, P H → ∃ fs, va_at (kg_D G) kr_cl (b, .inr (ci, fs)) H)
    (kx : ∀ E, kr_JX G x nL Q (Px E) (cs + mc) (ss + ms) pc lv E) (k : ∀ v, kr_J G x nL Q (Po v) (cs + mc) (ss + ms) (pc + 3) lv (v.toList ++ rest)) : kr_J G x nL Q P cs ss pc lv st := by
  subst hst
  have e := X.room
  have hG : GoodIn lw_all (va_wsU y.cls index C w.cls w z (ws_ z bytes maxL ret')) := by
    refine lw_app ?_ (lw_meth hw)
    intro u hu
    simp only [List.mem_cons, List.not_mem_nil, or_false] at hu
    rcases hu with q | q | q | q | q
    · rw [q]; exact hlink
    · rw [q]; exact hsame
    · rw [q]; exact hsel
    · rw [q]; exact hinst
    · rw [q]; exact hini
  exact kj_run (fun H locs ls hP hS hl => vx_runU (kr_fixed X) hT (va_cwA n X.hts hG rfl rfl rfl (X.decl hdec) hd (by show F + 1 ≤ (kx_R x).frames ∧ 8 + (maxL + 11) + L ≤ (kx_R x).locals; rw [e]; exact hR)) (kr_preV X hc (hrecv H hP) hP hS) rfl hn hl.1 rfl (lv_room hlow) hdg (by show cs + mc ≤ (kx_R x).cells ∧ ss + ms ≤ (kx_R x).slots; rw [e]; exact hroom)) kx k
end
section
variable {G : kr_G} {l : Launch} {g g' : kr_Gh} {S S' : kr_St} {Z Z' : kr_Ro → Option kr_AE}
theorem kj_act {rm : Room} {x : kr_X} (X : kr_C G x yX1_turn cX1_turn 6 none rm []) (hg : kr_gok g) {p k q : Nat} (hV : kr_V S) (hp : sN S 15 p = 1) (hk : k < sN S 1 0) (hq : sN S 12 q ≠ 0) (hZ : ∀ r z, Z r ≠ some (.inr z)) {Q : State → Prop} {cs ss : Nat} {lv : List (Option Value)} (hR : 12 ≤ rm.frames ∧ 3400 ≤ rm.locals) (hroom : cs + 5 ≤ rm.cells ∧ ss + 23 ≤ rm.slots)
    (kk : kr_J G x 6 Q (fun H => kr_Hx G [8, 9, 10, 12] g (oAct S p k q).1 Z H) (cs + 5) (ss + 23) 172 lv [.int (kr_b (oAct S p k q).2)]) :
    kr_J G x 6 Q (kr_S G (gA g) (kr_cells G g S Z)) cs ss 169 lv [.ref (gA g (5, k)), .ref (gA g (7, p)), .ref (gA g (0, 0)), .ref (gA g (17, q))] := by
  obtain ⟨⟨v1, v2, v3, v4⟩, vI, vls, vnum, vpl, vdev, vvis⟩ := hV
  obtain ⟨n1, n2, m, hm, m1, m2, m3, m4⟩ := vnum q hq
  obtain ⟨p1, ⟨p2, p3⟩, ⟨p4, p5⟩, p6, p7⟩ := vpl p hp
  have hmc : (sI S 6 q).toNatClampNeg = m := by rw [hm]; exact nI_clamp (by omega)
  have hho : ∀ d, d < sN S 14 0 → ∀ j, sN S 9 d = j + 1 → sN S 15 j = 1 := fun d hd => (vdev d (by omega)).1
  have hat : ∀ d, d < sN S 2 0 → sN S 10 d ≤ sN S 1 0 := fun d hd => (vvis d hd).1
  have hls : ∀ i, i < sN S 0 0 → (sL S 1 i).length ≤ 20 ∧ ∀ b ∈ sL S 1 i, 8 ≤ sN S 12 b ∧ sN S 12 b ≤ 16 := fun i hi => by
    obtain ⟨a1, a2⟩ := vls i hi
    rw [a2]
    exact ⟨a1, vI.2.2.1 i hi⟩
  have r1 := hR.1
  have r2 := hR.2
  have r3 := hroom.1
  have r4 := hroom.2
  rcases (show sN S 12 q = 8 ∨ sN S 12 q = 9 ∨ sN S 12 q = 10 ∨ sN S 12 q = 11 ∨ sN S 12 q = 12 ∨ sN S 12 q = 13 ∨ sN S 12 q = 14 ∨ sN S 12 q = 15 ∨ sN S 12 q = 16 by omega) with e | e | e | e | e | e | e | e | e
  · refine kj_callA X 3 (ct_X6_act X.F hg (s := m) e hm v3 hk m1 hat (fun d hd => (vvis d hd).2 m m1) _) q1319 q1321 q1320 q1369 q1370 q64 q1371 ⟨by decide, by decide, by decide +kernel⟩ dX1_turn_169 rfl rfl (Nat.le_of_ble_eq_true rfl) ⟨by omega, by omega⟩ ⟨by omega, by omega⟩ kc_X6.1 (fun H h => h.rc (i := (17, q)) (by rw [kc_17 hq, e])) (fun E => kjx_no) (fun v => ?_)
    refine kj_and (fun ev => ?_)
    subst ev
    refine kj_wide (cs' := cs + 5) (ss' := ss + 23) (by omega) (by omega) ?_
    unfold oAct at kk
    rw [if_pos e] at kk
    rw [hmc] at kk
    exact kj_P (fun H h => kr_Hx.of h kr_gsm.rf hg) kk
  · refine kj_callA X 3 (ct_X7_act X.F hp e _ _) q1319 q1321 q1320 q1351 q1352 q65 q1353 ⟨by decide, by decide, by decide +kernel⟩ dX1_turn_169 rfl rfl (Nat.le_of_ble_eq_true rfl) ⟨by omega, by omega⟩ ⟨by omega, by omega⟩ kc_X7.1 (fun H h => h.rc (i := (17, q)) (by rw [kc_17 hq, e])) (fun E => kjx_no) (fun v => ?_)
    refine kj_and (fun ev => ?_)
    subst ev
    refine kj_wide (cs' := cs + 5) (ss' := ss + 23) (by omega) (by omega) ?_
    unfold oAct at kk
    rw [if_neg (show ¬ sN S 12 q = 8 by omega)] at kk
    rw [if_pos e] at kk
    exact kj_P (fun H h => kr_Hx.of h kr_gsm.rf hg) kk
  · refine kj_callA X 3 (ct_X8_act X.F hg (d := m) v4 hp e hm (m2 (Or.inl e)) p4 hho (Nat.le_trans (vdev m (m2 (Or.inl e))).2.2 (by decide)) _) q1319 q1321 q1320 q1389 q1390 q66 q1391 ⟨by decide, by decide, by decide +kernel⟩ dX1_turn_169 rfl rfl (Nat.le_of_ble_eq_true rfl) ⟨by omega, by omega⟩ ⟨by omega, by omega⟩ kc_X8.1 (fun H h => h.rc (i := (17, q)) (by rw [kc_17 hq, e])) (fun E => kjx_no) (fun v => ?_)
    refine kj_and (fun ev => ?_)
    subst ev
    refine kj_wide (cs' := cs + 5) (ss' := ss + 23) (by omega) (by omega) ?_
    unfold oAct at kk
    rw [if_neg (show ¬ sN S 12 q = 8 by omega)] at kk
    rw [if_neg (show ¬ sN S 12 q = 9 by omega)] at kk
    rw [if_pos e] at kk
    rw [hmc] at kk
    refine kj_P (fun H h => ?_) kk
    obtain ⟨g', ⟨h1, h2⟩, h3⟩ := h
    exact kr_Hx.of h3 (h1.mo (by decide)) h2
  · refine kj_callA X 3 (ct_X9_act X.F hg (d := m) hp v4 e hm (m2 (Or.inr e)) (by have := (vdev m (m2 (Or.inr e))).2.2; omega) (vI.2.1 m (by rw [v4]; exact m2 (Or.inr e))) (hho m (by rw [v4]; exact m2 (Or.inr e))) _) q1319 q1321 q1320 q1322 q1323 q67 q1324 ⟨by decide, by decide, by decide +kernel⟩ dX1_turn_169 rfl rfl (Nat.le_of_ble_eq_true rfl) ⟨by omega, by omega⟩ ⟨by omega, by omega⟩ kc_X9.1 (fun H h => h.rc (i := (17, q)) (by rw [kc_17 hq, e])) (fun E => kjx_no) (fun v => ?_)
    refine kj_and (fun ev => ?_)
    subst ev
    refine kj_wide (cs' := cs + 5) (ss' := ss + 23) (by omega) (by omega) ?_
    unfold oAct at kk
    rw [if_neg (show ¬ sN S 12 q = 8 by omega)] at kk
    rw [if_neg (show ¬ sN S 12 q = 9 by omega)] at kk
    rw [if_neg (show ¬ sN S 12 q = 10 by omega)] at kk
    rw [if_pos e] at kk
    rw [hmc] at kk
    refine kj_P (fun H h => ?_) kk
    obtain ⟨g', ⟨h1, h2⟩, h3⟩ := h
    exact kr_Hx.of h3 (h1.mo (by decide)) h2
  · refine kj_callA X 3 (ct_X10_act X.F hp p2 p3 e _ _) q1319 q1321 q1320 q1329 q1330 q68 q1331 ⟨by decide, by decide, by decide +kernel⟩ dX1_turn_169 rfl rfl (Nat.le_of_ble_eq_true rfl) ⟨by omega, by omega⟩ ⟨by omega, by omega⟩ kc_X10.1 (fun H h => h.rc (i := (17, q)) (by rw [kc_17 hq, e])) (fun E => kjx_no) (fun v => ?_)
    refine kj_and (fun ev => ?_)
    subst ev
    refine kj_wide (cs' := cs + 5) (ss' := ss + 23) (by omega) (by omega) ?_
    unfold oAct at kk
    rw [if_neg (show ¬ sN S 12 q = 8 by omega)] at kk
    rw [if_neg (show ¬ sN S 12 q = 9 by omega)] at kk
    rw [if_neg (show ¬ sN S 12 q = 10 by omega)] at kk
    rw [if_neg (show ¬ sN S 12 q = 11 by omega)] at kk
    rw [if_pos e] at kk
    exact kj_P (fun H h => kr_Hx.of h kr_gsm.rf hg) kk
  · refine kj_callA X 3 (ct_X11_act X.F hg v3 hp p2 p3 e hk hat) q1319 q1321 q1320 q1333 q1334 q69 q1335 ⟨by decide, by decide, by decide +kernel⟩ dX1_turn_169 rfl rfl (Nat.le_of_ble_eq_true rfl) ⟨by omega, by omega⟩ ⟨by omega, by omega⟩ kc_X11.1 (fun H h => h.rc (i := (17, q)) (by rw [kc_17 hq, e])) (fun E => kjx_no) (fun v => ?_)
    refine kj_and (fun ev => ?_)
    subst ev
    refine kj_wide (cs' := cs + 5) (ss' := ss + 23) (by omega) (by omega) ?_
    unfold oAct at kk
    rw [if_neg (show ¬ sN S 12 q = 8 by omega)] at kk
    rw [if_neg (show ¬ sN S 12 q = 9 by omega)] at kk
    rw [if_neg (show ¬ sN S 12 q = 10 by omega)] at kk
    rw [if_neg (show ¬ sN S 12 q = 11 by omega)] at kk
    rw [if_neg (show ¬ sN S 12 q = 12 by omega)] at kk
    rw [if_pos e] at kk
    exact kj_P (fun H h => kr_Hx.of h kr_gsm.rf hg) kk
  · refine kj_callA X 3 (ct_X12_act X.F hp p2 p3 e _ _) q1319 q1321 q1320 q1347 q1348 q70 q1349 ⟨by decide, by decide, by decide +kernel⟩ dX1_turn_169 rfl rfl (Nat.le_of_ble_eq_true rfl) ⟨by omega, by omega⟩ ⟨by omega, by omega⟩ kc_X12.1 (fun H h => h.rc (i := (17, q)) (by rw [kc_17 hq, e])) (fun E => kjx_no) (fun v => ?_)
    refine kj_and (fun ev => ?_)
    subst ev
    refine kj_wide (cs' := cs + 5) (ss' := ss + 23) (by omega) (by omega) ?_
    unfold oAct at kk
    rw [if_neg (show ¬ sN S 12 q = 8 by omega)] at kk
    rw [if_neg (show ¬ sN S 12 q = 9 by omega)] at kk
    rw [if_neg (show ¬ sN S 12 q = 10 by omega)] at kk
    rw [if_neg (show ¬ sN S 12 q = 11 by omega)] at kk
    rw [if_neg (show ¬ sN S 12 q = 12 by omega)] at kk
    rw [if_neg (show ¬ sN S 12 q = 13 by omega)] at kk
    rw [if_pos e] at kk
    exact kj_P (fun H h => kr_Hx.of h kr_gsm.rf hg) kk
  · refine kj_callA X 3 (ct_X13_act X.F hp e _ _) q1319 q1321 q1320 q1366 q1367 q71 q1368 ⟨by decide, by decide, by decide +kernel⟩ dX1_turn_169 rfl rfl (Nat.le_of_ble_eq_true rfl) ⟨by omega, by omega⟩ ⟨by omega, by omega⟩ kc_X13.1 (fun H h => h.rc (i := (17, q)) (by rw [kc_17 hq, e])) (fun E => kjx_no) (fun v => ?_)
    refine kj_and (fun ev => ?_)
    subst ev
    refine kj_wide (cs' := cs + 5) (ss' := ss + 23) (by omega) (by omega) ?_
    unfold oAct at kk
    rw [if_neg (show ¬ sN S 12 q = 8 by omega)] at kk
    rw [if_neg (show ¬ sN S 12 q = 9 by omega)] at kk
    rw [if_neg (show ¬ sN S 12 q = 10 by omega)] at kk
    rw [if_neg (show ¬ sN S 12 q = 11 by omega)] at kk
    rw [if_neg (show ¬ sN S 12 q = 12 by omega)] at kk
    rw [if_neg (show ¬ sN S 12 q = 13 by omega)] at kk
    rw [if_neg (show ¬ sN S 12 q = 14 by omega)] at kk
    rw [if_pos e] at kk
    exact kj_P (fun H h => kr_Hx.of h kr_gsm.rf hg) kk
  · refine kj_callA X 3 (ct_X14_act X.F hg (i := m) hp v1 p3 e hm (m4 e) vI hZ hls _) q1319 q1321 q1320 q1354 q1355 q72 q1356 ⟨by decide, by decide, by decide +kernel⟩ dX1_turn_169 rfl rfl (Nat.le_of_ble_eq_true rfl) ⟨by omega, by omega⟩ ⟨by omega, by omega⟩ kc_X14.1 (fun H h => h.rc (i := (17, q)) (by rw [kc_17 hq, e])) (fun E => kjx_no) (fun v => ?_)
    refine kj_and (fun ev => ?_)
    subst ev
    refine kj_wide (cs' := cs + 5) (ss' := ss + 23) (by omega) (by omega) ?_
    unfold oAct at kk
    rw [if_neg (show ¬ sN S 12 q = 8 by omega)] at kk
    rw [if_neg (show ¬ sN S 12 q = 9 by omega)] at kk
    rw [if_neg (show ¬ sN S 12 q = 10 by omega)] at kk
    rw [if_neg (show ¬ sN S 12 q = 11 by omega)] at kk
    rw [if_neg (show ¬ sN S 12 q = 12 by omega)] at kk
    rw [if_neg (show ¬ sN S 12 q = 13 by omega)] at kk
    rw [if_neg (show ¬ sN S 12 q = 14 by omega)] at kk
    rw [if_neg (show ¬ sN S 12 q = 15 by omega)] at kk
    rw [hmc] at kk
    refine kj_P (fun H h => ?_) kk
    obtain ⟨g', ⟨h1, h2⟩, h3⟩ := h
    exact kr_Hx.of h3 (h1.mo (by decide)) h2
end
