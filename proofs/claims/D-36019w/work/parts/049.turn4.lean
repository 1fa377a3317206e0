/-! TURN 4: the contract -/
set_option maxRecDepth 100000
theorem oLine1_V {S : kr_St} (h : kr_V S) {p k : Nat} (hp : sN S 15 p = 1) (h8 : sN S 8 p = 0) : kr_V (oLine1 S p k).1 := by
  obtain ⟨p1, ⟨p2, p3⟩, -, -, p7⟩ := h.2.2.2.2.1 p hp
  obtain ⟨f1, f2, f3, m, f4, f5⟩ := p7 (sN S 5 p - 1) (by omega)
  obtain ⟨g1, -⟩ := p7 0 (by omega)
  unfold oLine1
  split
  · exact (kr_V.lon h).frame (by decide) (by decide) (fun d' h1 h2 => by omega) g1
  · rename_i ho
    have hnx : (sI S 5 (kt_top S p)).toNatClampNeg = m := by
      show (sI S 5 (4 * p + (sN S 5 p - 1))).toNatClampNeg = m
      rw [f5]
      exact nI_clamp (by omega)
    have hlen : m < (sL S 4 (4 * p + (sN S 5 p - 1))).length := by
      have h2 : ¬ fOver S (kt_top S p) = true := ho
      unfold fOver at h2
      rw [hnx] at h2
      have h3 : ¬ (sL S 4 (4 * p + (sN S 5 p - 1))).length ≤ m := fun z => h2 (decide_eq_true z)
      omega
    obtain ⟨q, hq⟩ : ∃ q, (sL S 4 (4 * p + (sN S 5 p - 1)))[m]? = some q := ⟨_, List.getElem?_eq_getElem hlen⟩
    have e5 : sI S 5 (kt_top S p) = nI m := f5
    have e6 : (sL S 4 (kt_top S p))[(sI S 5 (kt_top S p)).toNatClampNeg]?.getD 0 = q := by
      rw [hnx]
      show (sL S 4 (4 * p + (sN S 5 p - 1)))[m]?.getD 0 = q
      rw [hq]
      rfl
    rw [e6, e5, nI_1]
    obtain ⟨c1, c2⟩ := f3 q (List.mem_of_getElem? hq)
    exact ((kr_V.lon h).next (by omega)).act hp h8 (by show sN S 12 q ≠ 0; omega)
theorem oLine1_N (S : kr_St) (p k a b : Nat) (h5 : a ≠ 5) (h8 : a ≠ 8) (h9 : a ≠ 9) (h11 : a ≠ 11) (ha : a < 100) : sN (oLine1 S p k).1 a b = sN S a b := by
  unfold oLine1
  split
  · show sN (uL (uI (uN (uN (uD S (sD S + 1)) 5 p 1) 11 _ _) 5 _ 0) 4 _ _) a b = _
    rw [sN_uL, sN_uI, sN_uN, if_neg (fun z => h11 z.1), sN_uN, if_neg (fun z => h5 z.1)]
    rfl
  · rw [oAct_N _ p k _ a b h5 h8 h9 h11 ha]
    rfl
theorem oLine1_8 (S : kr_St) (p k : Nat) (h : sN S 8 p = 0) (hb : (oLine1 S p k).2 = true) : sN (oLine1 S p k).1 8 p = 0 := by
  unfold oLine1 at hb ⊢
  split
  · exact h
  · rename_i ho
    rw [if_neg ho] at hb
    exact oAct_8 _ p k _ h hb
section
variable {G : kr_G} {l : Launch} {g g' : kr_Gh} {S S' : kr_St} {Z Z' : kr_Ro → Option kr_AE}
theorem ct_X1_turn (hF : kr_F G l) (hg : kr_gok g) {p k : Nat} (hV : kr_V S) (hp : sN S 15 p = 1) (hk : k < sN S 1 0) (hZ : ∀ r z, Z r ≠ some (.inr z)) : kr_T G l yX1_turn (ws_ yX1_turn cX1_turn 6 (Option.none : Option Jvm.ClassFile.FieldType)) 12 3400 [.ref (gA g (0, 0)), .ref (gA g (7, p)), .ref (gA g (5, k))] (kr_S G (gA g) (kr_cells G g S Z)) 40 184 (fun v H => v = none ∧ kr_Hx G [8, 9, 10, 12] g (oTurn S p k) Z H) kr_no := by
  refine kr_T.of (by decide +kernel) hF (by simp [Value.category]) (Nat.le_of_ble_eq_true rfl) (fun x hx X => ?_)
  obtain ⟨p1, p23, ⟨p4, p5⟩, -, -⟩ := hV.2.2.2.2.1 p hp
  refine kj_aload_n X dX1_turn_0 rfl rfl (by first | exact ⟨some _, rfl⟩ | exact ⟨none, rfl⟩ | exact ⟨_, rfl⟩) ?_
  refine kj_getN X kc_X16 4 (by decide) q1148 rfl dX1_turn_1 (fun H h => h.own (kc_7 hp)) rfl ?_
  refine kj_if_le X 18 dX1_turn_4 (by decide) (fun c_4 => ?_) (fun c_4 => ?_)
  rotate_left
  · have hw : 0 < sI S 2 p := Int32.not_le.mp c_4
    unfold oTurn
    rw [if_pos hw]
    refine kj_aload_n X dX1_turn_7 rfl rfl (by first | exact ⟨some _, rfl⟩ | exact ⟨none, rfl⟩ | exact ⟨_, rfl⟩) ?_
    refine kj_dup X dX1_turn_8 (by first | rfl | exact kr_cat _) ?_
    refine kj_getN X kc_X16 4 (by decide) q1148 rfl dX1_turn_9 (fun H h => h.own (kc_7 hp)) rfl ?_
    refine kj_iconst (v := 1) X dX1_turn_12 (by decide) ?_
    refine kj_isub X dX1_turn_13 ?_
    refine kj_putN X kc_X16 4 (by decide) q1148 rfl rfl dX1_turn_14 (by first | rfl | exact kr_nar _ _ | exact kr_narb _) (by first | rfl | exact kr_fitr _ _ | exact kr_fitb _) (Nat.le_of_ble_eq_true rfl) (fun H h => h.own (kc_7 hp)) (fun H H1 h a u => h.upd (kc_7 hp) (ku_wait hp) a u) ?_
    exact kj_vret X dX1_turn_17 (by omega) (by omega) (fun H h => ⟨rfl, kr_Hx.of h kr_gsm.rf hg⟩)
  have hw : ¬ 0 < sI S 2 p := Int32.not_lt.mpr c_4
  unfold oTurn
  rw [if_neg hw]
  generalize hT : oGo S p k 8 (decide (sN S 8 p = 0)) = T
  have loop : ∀ n j S' g' (b : Bool) v5 cs ss, j + n = 8 → kr_gsm [8, 9, 10, 12] g g' → kr_gok g' → kr_V S' → sN S' 15 p = 1 → k < sN S' 1 0 → (b = true → sN S' 8 p = 0) → cs + 5 * n ≤ 40 → ss + 23 * n ≤ 184 → oGo S' p k n b = T →
      kr_J G x 6 (kr_Q G x 40 184 (fun v H => v = none ∧ kr_Hx G [8, 9, 10, 12] g T Z H) kr_no) (kr_S G (gA g') (kr_cells G g' S' Z)) cs ss 34 [some (.ref (gA g (0, 0))), some (.ref (gA g (7, p))), some (.ref (gA g (5, k))), some (.int (kr_b b)), some (.int (nI j)), v5] [] := by
    intro n
    induction n with
    | zero =>
      intro j S' g' b v5 cs ss hj hs hok hV' hp' hk' hb h1 h2 hT'
      obtain rfl : j = 8 := by omega
      refine kj_iload X dX1_turn_34 rfl ?_
      refine kj_bipush (v := 8) X dX1_turn_36 (by decide) ?_
      refine kj_icmp_ge X 179 dX1_turn_38 (by decide) (fun c_38 => ?_) (fun c_38 => ?_)
      · exact kj_vret X dX1_turn_179 (by omega) (by omega) (fun H h => ⟨rfl, by rw [← hT']; exact kr_Hx.of h hs hok⟩)
      · exact absurd (by decide) c_38
    | succ n ih =>
      intro j S' g' b v5 cs ss hj hs hok hV' hp' hk' hb h1 h2 hT'
      have eo : oGo S' p k (n + 1) b = if b then oGo (oLine S' p k).1 p k n (oLine S' p k).2 else S' := rfl
      rw [eo] at hT'
      refine kj_iload X dX1_turn_34 rfl ?_
      refine kj_bipush (v := 8) X dX1_turn_36 (by decide) ?_
      refine kj_icmp_ge X 179 dX1_turn_38 (by decide) (fun c_38 => ?_) (fun c_38 => ?_)
      · exact absurd c_38 (nI_ge (b := 8) (by omega) (by decide))
      cases b with
      | false =>
        refine kj_iload_n X dX1_turn_41 rfl rfl ?_
        refine kj_if_eq X 179 dX1_turn_42 (by decide) (fun c_42 => ?_) (fun c_42 => ?_)
        · exact kj_vret X dX1_turn_179 (by omega) (by omega) (fun H h => ⟨rfl, by rw [← hT']; exact kr_Hx.of h hs hok⟩)
        · exact absurd rfl c_42
      | true =>
        rw [if_pos rfl] at hT'
        refine kj_iload_n X dX1_turn_41 rfl rfl ?_
        refine kj_if_eq X 179 dX1_turn_42 (by decide) (fun c_42 => ?_) (fun c_42 => ?_)
        · exact absurd c_42 (by decide)
        have e0 : gA g' (0, 0) = gA g (0, 0) := (hs (0, 0) (by decide)).1
        have e7 : gA g' (7, p) = gA g (7, p) := (hs (7, p) (by show (7 : Nat) ∉ [8, 9, 10, 12]; decide)).1
        have e5 : gA g' (5, k) = gA g (5, k) := (hs (5, k) (by show (5 : Nat) ∉ [8, 9, 10, 12]; decide)).1
        have p3' := (hV'.2.2.2.2.1 p hp').2.1.2
        rw [← e0, ← e7, ← e5]
        refine kj_pops X ⟨Nat.le_refl _, Nat.le_refl _⟩ hZ ⟨by dsimp only; omega, by dsimp only; omega⟩ 4 S' g' hV' hp' hok p3' (fun g1 a1 a2 a3 => ?_)
        have hV1 := oPop_V hV' p 4
        have hp1 : sN (oPop S' p 4) 15 p = 1 := by rw [oPop_N p (by decide)]; exact hp'
        have hk1 : k < sN (oPop S' p 4) 1 0 := by rw [oPop_N p (by decide)]; exact hk'
        have h81 : sN (oPop S' p 4) 8 p = 0 := by rw [oPop_N p (by decide)]; exact hb rfl
        rw [← a1]
        refine kj_line X ⟨Nat.le_refl _, Nat.le_refl _⟩ hZ ⟨by dsimp only; omega, by dsimp only; omega⟩ hV1 hp1 hk1 a3 (oPop_end p 4 S' p3') (fun g2 v6 b1 b2 => ?_)
        rw [a1, e0, e7, e5]
        refine kj_iinc (lv' := [_, _, _, _, _, _]) (w := nI (j + 1)) X dX1_turn_173 (by decide) rfl (by intro w h _; cases h <;> first | rfl | exact kr_cat _) (nI_1 j) rfl ?_
        refine kj_goto X 34 dX1_turn_176 (by decide) ?_
        refine ih (j + 1) (oLine S' p k).1 g2 (oLine S' p k).2 v6 (cs + 5) (ss + 23) (by omega) ?_ b2 (oLine1_V hV1 hp1 h81) ?_ ?_ (fun z => oLine1_8 _ p k h81 z) (by omega) (by omega) hT'
        · exact (hs.tr (a2.tr b1 (K := [8, 9, 10, 12]) (by simp) (by simp)) (by simp) (by simp))
        · show sN (oLine1 _ p k).1 15 p = 1
          rw [oLine1_N _ p k 15 p (by decide) (by decide) (by decide) (by decide) (by decide)]
          exact hp1
        · show k < sN (oLine1 _ p k).1 1 0
          rw [oLine1_N _ p k 1 0 (by decide) (by decide) (by decide) (by decide) (by decide)]
          exact hk1
  refine kj_aload_n X dX1_turn_18 rfl rfl (by first | exact ⟨some _, rfl⟩ | exact ⟨none, rfl⟩ | exact ⟨_, rfl⟩) ?_
  refine kj_getN X kc_X16 5 (by decide) q1151 rfl dX1_turn_19 (fun H h => h.own (kc_7 hp)) rfl ?_
  refine kj_if_ne X 29 dX1_turn_22 (by decide) (fun c_22 => ?_) (fun c_22 => ?_)
  · have e8 : ¬ sN S 8 p = 0 := fun z => c_22 (by rw [z]; rfl)
    rw [decide_eq_false e8] at hT
    refine kj_iconst (v := 0) X dX1_turn_29 (by decide) ?_
    refine kj_istore_n (lv' := [_, _, _, _, _, _]) X dX1_turn_30 rfl (by decide) (by intro w h _; cases h <;> first | rfl | exact kr_cat _) rfl ?_
    refine kj_iconst (v := 0) X dX1_turn_31 (by decide) ?_
    refine kj_istore (lv' := [_, _, _, _, _, _]) X dX1_turn_32 (by decide) (by intro w h _; cases h <;> first | rfl | exact kr_cat _) rfl ?_
    exact loop 8 0 S g false none 0 0 (by omega) kr_gsm.rf hg hV hp hk (fun z => by cases z) (by omega) (by omega) hT
  · have e8 : sN S 8 p = 0 := (nI_eq (b := 0) (by omega) (by omega)).mp c_22
    rw [decide_eq_true e8] at hT
    refine kj_iconst (v := 1) X dX1_turn_25 (by decide) ?_
    refine kj_goto X 30 dX1_turn_26 (by decide) ?_
    refine kj_istore_n (lv' := [_, _, _, _, _, _]) X dX1_turn_30 rfl (by decide) (by intro w h _; cases h <;> first | rfl | exact kr_cat _) rfl ?_
    refine kj_iconst (v := 0) X dX1_turn_31 (by decide) ?_
    refine kj_istore (lv' := [_, _, _, _, _, _]) X dX1_turn_32 (by decide) (by intro w h _; cases h <;> first | rfl | exact kr_cat _) rfl ?_
    exact loop 8 0 S g true none 0 0 (by omega) kr_gsm.rf hg hV hp hk (fun _ => e8) (by omega) (by omega) hT
end
