/-! THAW -/
set_option maxRecDepth 100000
/-- a player moves to kiosk k -/
def oMove (S : kr_St) (p k : Nat) : kr_St := oW (oLeave S p) k p
theorem oLeave_N (S : kr_St) (p a b : Nat) : sN (oLeave S p) a b = sN S a b := by
  unfold oLeave
  split <;> rfl
theorem oLeave_I (S : kr_St) (p a b : Nat) : sI (oLeave S p) a b = sI S a b := by
  unfold oLeave
  split <;> rfl
theorem oLeave_D (S : kr_St) (p : Nat) : sD (oLeave S p) = sD S := by
  unfold oLeave
  split <;> rfl
theorem oLeave_L (S : kr_St) (p a b : Nat) : sL (oLeave S p) a b = if a = 2 ∧ sN S 4 p = b + 1 then (sL S 2 b).erase p else sL S a b := by
  unfold oLeave
  split
  · rename_i e
    rw [if_neg (by omega)]
  · rename_i k e
    rw [sL_uL]
    by_cases h : a = 2 ∧ b = k
    · rw [if_pos h, if_pos (by omega), h.2]
    · rw [if_neg h, if_neg (by omega)]
theorem oW_N (S : kr_St) (k p a b : Nat) : sN (oW S k p) a b = if a = 4 ∧ b = p then k + 1 else sN S a b := rfl
theorem oW_I (S : kr_St) (k p a b : Nat) : sI (oW S k p) a b = sI S a b := rfl
theorem oW_D (S : kr_St) (k p : Nat) : sD (oW S k p) = sD S := rfl
theorem oW_L (S : kr_St) (k p a b : Nat) : sL (oW S k p) a b = if a = 2 ∧ b = k then kr_ins S k p (sL S 2 k) else sL S a b := rfl
theorem oMove_N (S : kr_St) (p k a b : Nat) : sN (oMove S p k) a b = if a = 4 ∧ b = p then k + 1 else sN S a b := by
  unfold oMove
  rw [oW_N, oLeave_N]
theorem oMove_I (S : kr_St) (p k a b : Nat) : sI (oMove S p k) a b = sI S a b := by
  unfold oMove
  rw [oW_I, oLeave_I]
theorem oMove_D (S : kr_St) (p k : Nat) : sD (oMove S p k) = sD S := by
  unfold oMove
  rw [oW_D, oLeave_D]
/-- the list of kiosk j without p -/
def kr_wo (S : kr_St) (p j : Nat) : List Nat := if sN S 4 p = j + 1 then (sL S 2 j).erase p else sL S 2 j
theorem oMove_L (S : kr_St) (p k a b : Nat) : sL (oMove S p k) a b = if a = 2 then (if b = k then kr_ins S k p (kr_wo S p k) else kr_wo S p b) else sL S a b := by
  unfold oMove
  rw [oW_L, oLeave_L, oLeave_L]
  have e3 : ∀ xs, kr_ins (oLeave S p) k p xs = kr_ins S k p xs := fun xs => by
    unfold kr_ins
    rw [oLeave_N]
  rw [e3]
  unfold kr_wo
  by_cases ha : a = 2
  · subst ha
    simp
  · simp [ha]
theorem kr_pg.wo {S : kr_St} (h : kr_pg S (sL S 2)) {p j : Nat} (hj : j < sN S 1 0) : (kr_wo S p j).Nodup ∧ ∀ q, q ∈ kr_wo S p j ↔ q ∈ sL S 2 j ∧ q ≠ p := by
  obtain ⟨h1, h2⟩ := h.2.2 j hj
  unfold kr_wo
  split
  · refine ⟨h1.erase _, fun q => ?_⟩
    rw [h1.mem_erase_iff]
    exact and_comm
  · rename_i hn
    refine ⟨h1, fun q => ⟨fun hq => ⟨hq, fun z => hn ?_⟩, fun hq => hq.1⟩⟩
    rw [z] at hq
    exact ((h2 p).mp hq).2
theorem oMove_ok {S : kr_St} {p k : Nat} (hV : kr_V S) (hP : kr_Pl S) (hp : sN S 15 p = 1) (hk : k < sN S 1 0) (hf : sN S 7 k = 0) : kr_V (oMove S p k) ∧ kr_Pl (oMove S p k) := by
  obtain ⟨h1, h2⟩ := hP
  have hins := kr_ins_nodup (S := S) (k := k) (p := p) (h1.wo (p := p) hk).1 (fun z => ((h1.wo hk).2 p).mp z |>.2 rfl)
  refine ⟨hV.pl (fun b => oMove_I S p k 5 b) (fun b => oMove_I S p k 6 b) (fun a b ha => by rw [oMove_L, if_neg ha]) (fun a b _ h4 _ _ => by rw [oMove_N, if_neg (fun z => h4 z.1)]) (fun q hq => ?_) (fun j hj q hq => ?_), ?_, fun j hj => ?_⟩
  · rw [oMove_N]
    split
    · omega
    · exact (hV.2.2.2.2.1 q hq).2.2.2.1
  · rw [oMove_L, if_pos rfl] at hq
    split at hq
    · rcases kr_ins_mem.mp hq with z | z
      · exact hV.2.1.1 k hk q (((h1.wo hk).2 q).mp z).1
      · rw [z]
        exact hp
    · exact hV.2.1.1 j hj q (((h1.wo hj).2 q).mp hq).1
  · have hmv : kr_pg (uN S 4 p (k + 1)) (sL (oMove S p k) 2) := by
      refine h1.move hp (fun j hj hjn => ?_) (fun j hj hjn => ?_)
      · rw [oMove_L, if_pos rfl, if_neg (by omega)]
        exact h1.wo hj
      · obtain rfl : j = k := by omega
        rw [oMove_L, if_pos rfl, if_pos rfl]
        refine ⟨hins, fun q => ?_⟩
        rw [kr_ins_mem, (h1.wo hj).2]
        by_cases hq : q = p
        · exact ⟨fun _ => Or.inr hq, fun _ => Or.inr hq⟩
        · exact ⟨fun z => Or.inl (z.resolve_right hq).1, fun z => Or.inl ⟨z.resolve_right hq, hq⟩⟩
    refine hmv.cg ?_ (fun q => ?_) (fun q => ?_) (fun q => ?_) (fun j hj => ?_) (fun j hj => ?_) (fun j hj => rfl)
    · rw [oMove_N, if_neg (fun z => absurd z.1 (by decide))]
      rfl
    · rw [oMove_N, if_neg (fun z => absurd z.1 (by decide))]
      rfl
    · rw [oMove_N]
      rfl
    · rw [oMove_N, if_neg (fun z => absurd z.1 (by decide))]
      rfl
    · rw [oMove_N, if_neg (fun z => absurd z.1 (by decide))]
      exact (h1.2.1 j hj).2.1
    · rw [oMove_N, if_neg (fun z => absurd z.1 (by decide))]
      exact (h1.2.1 j hj).2.2
  · rw [oMove_N, if_neg (fun z => absurd z.1 (by decide))] at hj
    rw [oMove_N, if_neg (fun z => absurd z.1 (by decide)), oMove_I]
    refine ⟨fun z => ?_, (h2 j hj).2⟩
    rw [oMove_L, if_pos rfl, if_neg (fun w => by rw [w, hf] at z; cases z)]
    unfold kr_wo
    rw [(h2 j hj).1 z]
    split <;> rfl
def oThaw0 (S : kr_St) (k : Nat) : kr_St := uI (uN (uN S 6 k 0) 7 k 0) 3 k 0
def fComes (o : Bool) (S : kr_St) (k j : Nat) : Bool := o && (decide (sN S 3 j = 1) && (decide (j = k) || decide (sN S 4 j = 0)))
def oThaws (o : Bool) (k : Nat) (S : kr_St) : Nat → kr_St × Nat
  | 0 => (S, 0)
  | n + 1 => if fComes o (oThaws o k S n).1 k n then (oMove (oThaws o k S n).1 n k, (oThaws o k S n).2 + 1) else oThaws o k S n
def oThaw (S : kr_St) (k : Nat) : kr_St × Nat := oThaws (decide (sN S 7 k ≠ 0)) k (oThaw0 S k) (sN S 1 0)
theorem oThaw0_ok {S : kr_St} {k : Nat} (hV : kr_V S) (hP : kr_Pl S) : kr_V (oThaw0 S k) ∧ kr_Pl (oThaw0 S k) := by
  have e6 : ∀ j, sN (oThaw0 S k) 6 j = if j = k then 0 else sN S 6 j := fun j => by
    unfold oThaw0
    rw [sN_uI, sN_uN, if_neg (fun z => absurd z.1 (by decide)), sN_uN]
    by_cases e : j = k
    · rw [if_pos ⟨rfl, e⟩, if_pos e]
    · rw [if_neg (fun z => e z.2), if_neg e]
  have e7 : ∀ j, sN (oThaw0 S k) 7 j = if j = k then 0 else sN S 7 j := fun j => by
    unfold oThaw0
    rw [sN_uI, sN_uN]
    by_cases e : j = k
    · rw [if_pos ⟨rfl, e⟩, if_pos e]
    · rw [if_neg (fun z => e z.2), if_neg e, sN_uN, if_neg (fun z => absurd z.1 (by decide))]
  have e3 : ∀ j, sI (oThaw0 S k) 3 j = if j = k then 0 else sI S 3 j := fun j => by
    unfold oThaw0
    rw [sI_uI]
    by_cases e : j = k
    · rw [if_pos ⟨rfl, e⟩, if_pos e]
    · rw [if_neg (fun z => e z.2), if_neg e]
      rfl
  have eN : ∀ a b, a ≠ 6 → a ≠ 7 → sN (oThaw0 S k) a b = sN S a b := fun a b h6 h7 => by
    unfold oThaw0
    rw [sN_uI, sN_uN, if_neg (fun z => h7 z.1), sN_uN, if_neg (fun z => h6 z.1)]
  have eI : ∀ a b, a ≠ 3 → sI (oThaw0 S k) a b = sI S a b := fun a b h => by
    unfold oThaw0
    rw [sI_uI, if_neg (fun z => h z.1)]
    rfl
  obtain ⟨h1, h2⟩ := hP
  refine ⟨hV.pl (fun b => eI 5 b (by decide)) (fun b => eI 6 b (by decide)) (fun _ _ _ => rfl) (fun a b _ _ h6 h7 => eN a b h6 h7) (fun q hq => by rw [eN 4 q (by decide) (by decide)]; exact (hV.2.2.2.2.1 q hq).2.2.2.1) (fun j hj q hq => hV.2.1.1 j hj q hq), h1.cg (eN 1 0 (by decide) (by decide)) (fun q => eN 3 q (by decide) (by decide)) (fun q => eN 4 q (by decide) (by decide)) (fun q => eN 15 q (by decide) (by decide)) (fun j hj => ?_) (fun j hj => ?_) (fun j hj => rfl), fun j hj => ?_⟩
  · rw [e6]
    split
    · decide
    · exact (h1.2.1 j hj).2.1
  · rw [e7]
    split
    · decide
    · exact (h1.2.1 j hj).2.2
  · rw [eN 1 0 (by decide) (by decide)] at hj
    rw [e7, e3]
    by_cases e : j = k
    · rw [if_pos e, if_pos e]
      exact ⟨(fun z => by cases z), fun _ => ⟨0, by decide, rfl⟩⟩
    · rw [if_neg e, if_neg e]
      exact h2 j hj
theorem oThaws_ok {o : Bool} {k : Nat} {S : kr_St} (hV : kr_V S) (hP : kr_Pl S) (hk : k < sN S 1 0) (hf : sN S 7 k = 0) : ∀ n, n ≤ sN S 1 0 → kr_V (oThaws o k S n).1 ∧ kr_Pl (oThaws o k S n).1 ∧ sN (oThaws o k S n).1 1 0 = sN S 1 0 ∧ sN (oThaws o k S n).1 7 k = 0 ∧ (oThaws o k S n).2 ≤ n
  | 0, _ => ⟨hV, hP, rfl, hf, Nat.le_refl _⟩
  | n + 1, hn => by
    obtain ⟨a1, a2, a3, a4, a5⟩ := oThaws_ok (o := o) hV hP hk hf n (by omega)
    rw [show oThaws o k S (n + 1) = if fComes o (oThaws o k S n).1 k n then (oMove (oThaws o k S n).1 n k, (oThaws o k S n).2 + 1) else oThaws o k S n from rfl]
    split
    · rename_i hc
      unfold fComes at hc
      rw [Bool.and_eq_true, Bool.and_eq_true] at hc
      have ho : sN (oThaws o k S n).1 3 n = 1 := of_decide_eq_true hc.2.1
      have hp : sN (oThaws o k S n).1 15 n = 1 := (a2.1.1 n).mpr ⟨by omega, ho⟩
      obtain ⟨b1, b2⟩ := oMove_ok a1 a2 hp (by omega) a4
      exact ⟨b1, b2, by rw [oMove_N, if_neg (fun z => absurd z.1 (by decide))]; exact a3, by rw [oMove_N, if_neg (fun z => absurd z.1 (by decide))]; exact a4, by show _ + 1 ≤ _; omega⟩
    · exact ⟨a1, a2, a3, a4, by omega⟩
theorem oThaw_ok {S : kr_St} {k : Nat} (hV : kr_V S) (hP : kr_Pl S) (hk : k < sN S 1 0) : kr_V (oThaw S k).1 ∧ kr_Pl (oThaw S k).1 ∧ sN (oThaw S k).1 1 0 = sN S 1 0 := by
  obtain ⟨a1, a2⟩ := oThaw0_ok (k := k) hV hP
  have hf : sN (oThaw0 S k) 7 k = 0 := by
    unfold oThaw0
    rw [sN_uI, sN_uN, if_pos ⟨rfl, rfl⟩]
  obtain ⟨b1, b2, b3, -, -⟩ := oThaws_ok (o := decide (sN S 7 k ≠ 0)) a1 a2 hk hf (sN S 1 0) (Nat.le_refl _)
  exact ⟨b1, b2, b3⟩
theorem kr_ow_1 {g : kr_Gh} {n k : Nat} (h : n = 1) : kr_ow g n k = some (gA g (7, k)) := if_pos h
theorem kr_ow_0 {g : kr_Gh} {n k : Nat} (h : n ≠ 1) : kr_ow g n k = none := if_neg h
section
variable {G : kr_G} {l : Launch} {g g' : kr_Gh} {S S' : kr_St} {Z Z' : kr_Ro → Option kr_AE}
theorem ct_X1_thaw (hF : kr_F G l) (hg : kr_gok g) (hV : kr_V S) (hP : kr_Pl S) (i : Int32) : kr_T G l yX1_thaw (ws_ yX1_thaw cX1_thaw 9 (Option.some Jvm.ClassFile.FieldType.int)) 9 900 [.ref (gA g (0, 0)), .int i] (kr_S G (gA g) (kr_cells G g S Z)) 8 70 (fun v H => ∃ k, (i = nI k ∧ k < sN S 1 0 ∧ v = some (.int (nI (oThaw S k).2))) ∧ kr_Hx G [6] g (oThaw S k).1 Z H) (fun E H => (¬ (0 ≤ i ∧ i < nI (sN S 1 0)) ∧ E = kE_I) ∧ kr_S G (gA g) (kr_cells G g S Z) H) := by
  have hK6 : sN S 1 0 ≤ 6 := hV.1.2.1
  refine kr_T.of (by decide +kernel) hF (by simp [Value.category]) (Nat.le_of_ble_eq_true rfl) (fun x hx X => ?_)
  refine kj_aload_n X dX1_thaw_0 rfl rfl (by first | exact ⟨some _, rfl⟩ | exact ⟨none, rfl⟩ | exact ⟨_, rfl⟩) ?_
  refine kj_iload_n X dX1_thaw_1 rfl rfl ?_
  refine kj_callV X 1 (ct_X1_kioskAt X.F i hK6) (lw_V q1099 q1101 qs10 q43 q1102) ⟨rfl, by decide, by decide, by decide +kernel⟩ dX1_thaw_2 rfl rfl (by first | exact Nat.le_of_ble_eq_true rfl | simp [kr_cat, Value.category]) ⟨Nat.le_of_ble_eq_true rfl, Nat.le_of_ble_eq_true rfl⟩ ⟨by dsimp only; omega, by dsimp only; omega⟩ kc_X1.1 (fun H h => h.rc (kc_kio)) (fun E => kjx_out X (by omega) (by omega) (fun H h => h)) (fun v_2 => ?_)
  refine kj_open (fun k hk => ?_)
  obtain ⟨rfl, hk, rfl⟩ := hk
  have hk1 : k < sN (uN S 6 k 0) 1 0 := hk
  have hk2 : k < sN (uN (uN S 6 k 0) 7 k 0) 1 0 := hk
  refine kj_astore_n (lv' := [_, _, _, _, _, _, _, _, _]) X dX1_thaw_5 rfl (by decide) (by intro w h _; cases h <;> first | rfl | exact kr_cat _) (by first | exact ⟨some _, rfl⟩ | exact ⟨none, rfl⟩ | exact ⟨_, rfl⟩) rfl ?_
  refine kj_aload_n X dX1_thaw_6 rfl rfl (by first | exact ⟨some _, rfl⟩ | exact ⟨none, rfl⟩ | exact ⟨_, rfl⟩) ?_
  refine kj_getN X kc_X15 4 (by decide) q1073 rfl dX1_thaw_7 (fun H h => h.own (kc_5 hk)) rfl ?_
  refine kj_istore_n (lv' := [_, _, _, _, _, _, _, _, _]) X dX1_thaw_10 rfl (by decide) (by intro w h _; cases h <;> first | rfl | exact kr_cat _) rfl ?_
  refine kj_aload_n X dX1_thaw_11 rfl rfl (by first | exact ⟨some _, rfl⟩ | exact ⟨none, rfl⟩ | exact ⟨_, rfl⟩) ?_
  refine kj_iconst (v := 0) X dX1_thaw_12 (by decide) ?_
  refine kj_putN X kc_X15 3 (by decide) q1072 rfl rfl dX1_thaw_13 (by first | rfl | exact kr_nar _ _ | exact kr_narb _) (by first | rfl | exact kr_fitr _ _ | exact kr_fitb _) (Nat.le_of_ble_eq_true rfl) (fun H h => h.own (kc_5 hk)) (fun H H1 h a u => h.upd (kc_5 hk) (ku_fz (v := 0) hk) a u) ?_
  refine kj_aload_n X dX1_thaw_16 rfl rfl (by first | exact ⟨some _, rfl⟩ | exact ⟨none, rfl⟩ | exact ⟨_, rfl⟩) ?_
  refine kj_iconst (v := 0) X dX1_thaw_17 (by decide) ?_
  refine kj_putN X kc_X15 4 (by decide) q1073 rfl rfl dX1_thaw_18 (by first | rfl | exact kr_nar _ _ | exact kr_narb _) (by first | rfl | exact kr_fitr _ _ | exact kr_fitb _) (Nat.le_of_ble_eq_true rfl) (fun H h => h.own (kc_5 hk1)) (fun H H1 h a u => h.upd (kc_5 hk1) (ku_ou (v := 0) hk1) a u) ?_
  refine kj_aload_n X dX1_thaw_21 rfl rfl (by first | exact ⟨some _, rfl⟩ | exact ⟨none, rfl⟩ | exact ⟨_, rfl⟩) ?_
  refine kj_iconst (v := 0) X dX1_thaw_22 (by decide) ?_
  refine kj_putN X kc_X15 5 (by decide) q1074 rfl rfl dX1_thaw_23 (by first | rfl | exact kr_nar _ _ | exact kr_narb _) (by first | rfl | exact kr_fitr _ _ | exact kr_fitb _) (Nat.le_of_ble_eq_true rfl) (fun H h => h.own (kc_5 hk2)) (fun H H1 h a u => h.upd (kc_5 hk2) (ku_frozen (v := 0) hk2) a u) ?_
  refine kj_iconst (v := 0) X dX1_thaw_26 (by decide) ?_
  refine kj_istore (lv' := [_, _, _, _, _, _, _, _, _]) X dX1_thaw_27 (by decide) (by intro w h _; cases h <;> first | rfl | exact kr_cat _) rfl ?_
  refine kj_P (P' := kr_S G (gA g) (kr_cells G g (oThaw0 S k) Z)) (fun H h => h) ?_
  obtain ⟨hV0, hP0⟩ := oThaw0_ok (k := k) hV hP
  have hf0 : sN (oThaw0 S k) 7 k = 0 := by
    unfold oThaw0
    rw [sN_uI, sN_uN, if_pos ⟨rfl, rfl⟩]
  have eo : nI (sN S 7 k) = kr_b (decide (sN S 7 k ≠ 0)) := by
    have := (hP.1.2.1 k hk).2.2
    rcases (show sN S 7 k = 0 ∨ sN S 7 k = 1 by omega) with e | e <;> rw [e] <;> rfl
  rw [eo]
  have eT : oThaw S k = oThaws (decide (sN S 7 k ≠ 0)) k (oThaw0 S k) (sN S 1 0) := rfl
  have hK0 : sN (oThaw0 S k) 1 0 = sN S 1 0 := rfl
  generalize decide (sN S 7 k ≠ 0) = o at eT ⊢
  generalize oThaw0 S k = S0 at *
  have fin : ∀ g' cs ss lv, kr_gsm [6] g g' → kr_gok g' → cs ≤ 8 → ss ≤ 70 → kr_J G x 9 (kr_Q G x 8 70 (fun v H => ∃ k', (nI k = nI k' ∧ k' < sN S 1 0 ∧ v = some (.int (nI (oThaw S k').2))) ∧ kr_Hx G [6] g (oThaw S k').1 Z H) (fun E H => (¬ (0 ≤ nI k ∧ nI k < nI (sN S 1 0)) ∧ E = kE_I) ∧ kr_S G (gA g) (kr_cells G g S Z) H)) (kr_S G (gA g') (kr_cells G g' (oThaws o k S0 (sN S 1 0)).1 Z)) cs ss 124 lv [.int (nI (oThaws o k S0 (sN S 1 0)).2)] := by
    intro g' cs ss lv h1 h2 h3 h4
    exact kj_iret X dX1_thaw_124 (by omega) (by omega) (fun H h => ⟨k, ⟨rfl, hk, by rw [eT]⟩, by rw [eT]; exact kr_Hx.of h h1 h2⟩)
  generalize kr_Q G x 8 70 (fun v H => ∃ k', (nI k = nI k' ∧ k' < sN S 1 0 ∧ v = some (.int (nI (oThaw S k').2))) ∧ kr_Hx G [6] g (oThaw S k').1 Z H) (fun E H => (¬ (0 ≤ nI k ∧ nI k < nI (sN S 1 0)) ∧ E = kE_I) ∧ kr_S G (gA g) (kr_cells G g S Z) H) = Q at fin ⊢
  refine kj_aload_n X dX1_thaw_29 rfl rfl (by first | exact ⟨some _, rfl⟩ | exact ⟨none, rfl⟩ | exact ⟨_, rfl⟩) ?_
  refine kj_get X kc_X1 1 (by decide) q227 (Or.inl rfl) dX1_thaw_30 (fun H h => h.own (kc_kio)) rfl ?_
  refine kj_callF X 0 (ct_J2_iterator X.F hg.1 (Or.inl ⟨_, kc_l1⟩)) q262 q265 q267 q46 q269 q264 q263 q268 q266 q148 ⟨by decide, by decide, by decide +kernel⟩ dX1_thaw_33 rfl rfl (by first | exact Nat.le_of_ble_eq_true rfl | simp [kr_cat, Value.category]) ⟨Nat.le_of_ble_eq_true rfl, Nat.le_of_ble_eq_true rfl⟩ ⟨by dsimp only; omega, by dsimp only; omega⟩ kc_J2.1 (fun H h => h.list (kc_l1)) (fun E => kjx_no) (fun v_33 => ?_)
  refine kj_open (fun q hq => ?_)
  obtain ⟨hv, hq0⟩ := hq
  subst hv
  rw [kc_Zt] at hq0
  rw [kc_upt, show (some (Value.ref q)).toList = [Value.ref (gA g (40, q))] from by rw [(hg.1 q).1]; rfl]
  refine kj_astore (lv' := [_, _, _, _, _, _, _, _, _]) X dX1_thaw_38 (by decide) (by intro w h _; cases h <;> first | rfl | exact kr_cat _) (by first | exact ⟨some _, rfl⟩ | exact ⟨none, rfl⟩ | exact ⟨_, rfl⟩) rfl ?_
  have hlen : ∀ g' : kr_Gh, ((List.range (sN S 1 0)).map fun i => gA g' (5, i)).length = sN S 1 0 := fun g' => by rw [List.length_map, List.length_range]
  have loop : ∀ m n g' lr v6 v7 v8 cs ss, n + m = sN S 1 0 → kr_gsm [6] g g' → kr_gok g' → cs ≤ 2 + n → ss ≤ 10 + 10 * n → kr_J G x 9 Q (kr_S G (gA g') (kr_cells G g' (oThaws o k S0 n).1 (kr_up Z (40, q) (some (kr_it (gA g) (1, 1) (nI n) lr (gM g (1, 1))))))) cs ss 40 [some (.ref (gA g (0, 0))), some (.int (nI k)), some (.ref (gA g (5, k))), some (.int (kr_b o)), some (.int (nI (oThaws o k S0 n).2)), some (.ref (gA g (40, q))), v6, v7, v8] [] := by
    intro m
    induction m with
    | zero =>
      intro n g' lr v6 v7 v8 cs ss hn hs hok h1 h2
      obtain rfl : n = sN S 1 0 := by omega
      obtain ⟨-, -, hK, -, -⟩ := oThaws_ok (o := o) hV0 hP0 (by rw [hK0]; exact hk) hf0 (sN S 1 0) (Nat.le_of_eq hK0.symm)
      have e40 : gA g' (40, q) = gA g (40, q) := (hs (40, q) (by show (40 : Nat) ∉ [6]; decide)).1
      have e11 : gA g' (1, 1) = gA g (1, 1) ∧ gM g' (1, 1) = gM g (1, 1) := hs (1, 1) (by decide)
      have fin' := fin g'
      generalize oThaws o k S0 (sN S 1 0) = U at *
      have hj : kr_cells G g' U.1 (kr_up Z (40, q) (some (kr_it (gA g) (1, 1) (nI (sN S 1 0)) lr (gM g (1, 1))))) (40, q) = some (kr_it (gA g') (1, 1) (nI (sN S 1 0)) lr (gM g' (1, 1))) := by rw [kc_Zt, kr_up_s, kr_it_cg e11.1, e11.2]
      have hl1 : kr_cells G g' U.1 (kr_up Z (40, q) (some (kr_it (gA g) (1, 1) (nI (sN S 1 0)) lr (gM g (1, 1))))) (1, 1) = kr_li g' (1, 1) ((List.range (sN S 1 0)).map fun i => gA g' (5, i)) := by rw [kc_l1, hK, hK0]
      rw [← e40]
      refine kj_aload X dX1_thaw_40 rfl (by first | exact ⟨some _, rfl⟩ | exact ⟨none, rfl⟩ | exact ⟨_, rfl⟩) ?_
      refine kj_callF X 0 (ct_J22_hasNext X.F (Or.inl ⟨_, hl1⟩) (by rw [hlen]; omega) (by rw [hlen]; omega) hj) q290 q294 q296 q81 q298 q292 q291 q297 q295 q293 ⟨by decide, by decide, by decide +kernel⟩ dX1_thaw_42 rfl rfl (by first | exact Nat.le_of_ble_eq_true rfl | simp [kr_cat, Value.category]) ⟨Nat.le_of_ble_eq_true rfl, Nat.le_of_ble_eq_true rfl⟩ ⟨by dsimp only; omega, by dsimp only; omega⟩ kc_J22.1 (fun H h => h.rc (hj)) (fun E => kjx_no) (fun v_42 => ?_)
      refine kj_and (fun e_42 => ?_)
      subst e_42
      rw [hlen, show decide (sN S 1 0 < sN S 1 0) = false from decide_eq_false (Nat.lt_irrefl _)]
      refine kj_if_eq X 122 dX1_thaw_47 (by decide) (fun c_47 => ?_) (fun c_47 => ?_)
      · refine kj_iload X dX1_thaw_122 rfl ?_
        exact kj_P (fun H h => h.tidy hq0) (fin' _ _ _ hs hok (by omega) (by omega))
      · exact absurd rfl c_47
    | succ m ih =>
      intro n g' lr v6 v7 v8 cs ss hn hs hok h1 h2
      have hd : n < sN S 1 0 := by omega
      obtain ⟨hVU, hPU, hK, hf, hc⟩ := oThaws_ok (o := o) hV0 hP0 (by rw [hK0]; exact hk) hf0 n (by omega)
      have nxt := fun g2 => ih (n + 1) g2 (nI n)
      rw [show oThaws o k S0 (n + 1) = if fComes o (oThaws o k S0 n).1 k n then (oMove (oThaws o k S0 n).1 n k, (oThaws o k S0 n).2 + 1) else oThaws o k S0 n from rfl] at nxt
      generalize oThaws o k S0 n = U at *
      obtain ⟨U, c⟩ := U
      dsimp only at *
      rw [hK0] at hK
      have hdU : n < sN U 1 0 := by omega
      have hkU : k < sN U 1 0 := by omega
      have e0 : gA g' (0, 0) = gA g (0, 0) := (hs (0, 0) (by decide)).1
      have e5 : gA g' (5, k) = gA g (5, k) := (hs (5, k) (by show (5 : Nat) ∉ [6]; decide)).1
      have e40 : ∀ q, gA g' (40, q) = gA g (40, q) := fun q => (hs (40, q) (by show (40 : Nat) ∉ [6]; decide)).1
      have e11 : gA g' (1, 1) = gA g (1, 1) ∧ gM g' (1, 1) = gM g (1, 1) := hs (1, 1) (by decide)
      have hj : kr_cells G g' U (kr_up Z (40, q) (some (kr_it (gA g) (1, 1) (nI n) lr (gM g (1, 1))))) (40, q) = some (kr_it (gA g') (1, 1) (nI n) lr (gM g' (1, 1))) := by rw [kc_Zt, kr_up_s, kr_it_cg e11.1, e11.2]
      have hl1 : kr_cells G g' U (kr_up Z (40, q) (some (kr_it (gA g) (1, 1) (nI n) lr (gM g (1, 1))))) (1, 1) = kr_li g' (1, 1) ((List.range (sN S 1 0)).map fun i => gA g' (5, i)) := by rw [kc_l1, hK]
      rw [← e40 q]
      refine kj_aload X dX1_thaw_40 rfl (by first | exact ⟨some _, rfl⟩ | exact ⟨none, rfl⟩ | exact ⟨_, rfl⟩) ?_
      refine kj_callF X 0 (ct_J22_hasNext X.F (Or.inl ⟨_, hl1⟩) (by rw [hlen]; omega) (by rw [hlen]; omega) hj) q290 q294 q296 q81 q298 q292 q291 q297 q295 q293 ⟨by decide, by decide, by decide +kernel⟩ dX1_thaw_42 rfl rfl (by first | exact Nat.le_of_ble_eq_true rfl | simp [kr_cat, Value.category]) ⟨Nat.le_of_ble_eq_true rfl, Nat.le_of_ble_eq_true rfl⟩ ⟨by dsimp only; omega, by dsimp only; omega⟩ kc_J22.1 (fun H h => h.rc (hj)) (fun E => kjx_no) (fun v_42 => ?_)
      refine kj_and (fun e_42 => ?_)
      subst e_42
      rw [hlen, show decide (n < sN S 1 0) = true from decide_eq_true hd]
      refine kj_if_eq X 122 dX1_thaw_47 (by decide) (fun c_47 => ?_) (fun c_47 => ?_)
      · exact absurd c_47 (by decide)
      refine kj_aload X dX1_thaw_50 rfl (by first | exact ⟨some _, rfl⟩ | exact ⟨none, rfl⟩ | exact ⟨_, rfl⟩) ?_
      refine kj_callF X 0 (ct_J22_next X.F hl1 (a := gA g' (5, n)) (by rw [List.getElem?_map, List.getElem?_range hd]; rfl) hj) q300 q303 q305 q81 q307 q302 q301 q306 q304 q293 ⟨by decide, by decide, by decide +kernel⟩ dX1_thaw_52 rfl rfl (by first | exact Nat.le_of_ble_eq_true rfl | simp [kr_cat, Value.category]) ⟨Nat.le_of_ble_eq_true rfl, Nat.le_of_ble_eq_true rfl⟩ ⟨by dsimp only; omega, by dsimp only; omega⟩ kc_J22.1 (fun H h => h.rc (hj)) (fun E => kjx_no) (fun v_52 => ?_)
      refine kj_and (fun e_52 => ?_)
      subst e_52
      rw [kc_upt, kr_up_up, kr_it_cg e11.1, e11.2]
      generalize hZ1 : kr_up Z (40, q) (some (kr_it (gA g) (1, 1) (nI (n + 1)) (nI n) (gM g (1, 1)))) = Z1 at nxt ⊢
      refine kj_ccastR X kc_X15.1 q404 dX1_thaw_57 (fun H h => h.at (kc_5 hdU)) ?_
      refine kj_astore (lv' := [_, _, _, _, _, _, _, _, _]) X dX1_thaw_60 (by decide) (by intro w h _; cases h <;> first | rfl | exact kr_cat _) (by first | exact ⟨some _, rfl⟩ | exact ⟨none, rfl⟩ | exact ⟨_, rfl⟩) rfl ?_
      refine kj_aload X dX1_thaw_62 rfl (by first | exact ⟨some _, rfl⟩ | exact ⟨none, rfl⟩ | exact ⟨_, rfl⟩) ?_
      refine kj_getN X kc_X15 2 (by decide) q1071 rfl dX1_thaw_64 (fun H h => h.own (kc_5 hdU)) rfl ?_
      refine kj_astore (lv' := [_, _, _, _, _, _, _, _, _]) X dX1_thaw_67 (by decide) (by intro w h _; cases h <;> first | rfl | exact kr_cat _) (by first | exact ⟨some _, rfl⟩ | exact ⟨none, rfl⟩ | exact ⟨_, rfl⟩) rfl ?_
      have h97 : ∀ v7 v8, (sN U 3 n = 1 → v7 = .ref (gA g' (7, n))) → (∃ r, v7 = va_rf r) → kr_J G x 9 Q (kr_S G (gA g') (kr_cells G g' U Z1)) (cs + 0 + 0) (ss + 0 + 0) 97 [some (.ref (gA g (0, 0))), some (.int (nI k)), some (.ref (gA g (5, k))), some (.int (kr_b o)), some (.int (nI c)), some (.ref (gA g' (40, q))), some (.ref (gA g' (5, n))), some v7, v8] [.int (kr_b (fComes o U k n))] := by
        intro v7 v8 hv7 hr7
        obtain ⟨r7, rfl⟩ := hr7
        cases hcm : fComes o U k n with
        | false =>
          rw [if_neg (by rw [hcm]; decide)] at nxt
          refine kj_istore (lv' := [_, _, _, _, _, _, _, _, _]) X dX1_thaw_97 (by decide) (by intro w h _; cases h <;> first | rfl | exact kr_cat _) rfl ?_
          refine kj_iload X dX1_thaw_99 rfl ?_
          refine kj_if_eq X 119 dX1_thaw_101 (by decide) (fun c_101 => ?_) (fun c_101 => ?_)
          · refine kj_goto X 40 dX1_thaw_119 (by decide) ?_
            rw [e40 q]
            refine nxt g' _ _ _ _ _ (by omega) hs hok ?_ ?_
            · omega
            · omega
          · exact absurd rfl c_101
        | true =>
          rw [if_pos hcm] at nxt
          have hc2 := hcm
          unfold fComes at hc2
          rw [Bool.and_eq_true, Bool.and_eq_true] at hc2
          have ho : sN U 3 n = 1 := of_decide_eq_true hc2.2.1
          have hp : sN U 15 n = 1 := (hPU.1.1 n).mpr ⟨by omega, ho⟩
          rw [hv7 ho]
          obtain ⟨-, -, -, p4, -⟩ := hVU.2.2.2.2.1 n hp
          have hwel : (sL (oLeave U n) 2 k).length ≤ 9 := by
            rw [oLeave_L]
            have h6 := hPU.1.le hVU.1.2.1 hkU
            split
            · exact Nat.le_trans (List.length_erase_le ..) (by omega)
            · omega
          refine kj_istore (lv' := [_, _, _, _, _, _, _, _, _]) X dX1_thaw_97 (by decide) (by intro w h _; cases h <;> first | rfl | exact kr_cat _) rfl ?_
          refine kj_iload X dX1_thaw_99 rfl ?_
          refine kj_if_eq X 119 dX1_thaw_101 (by decide) (fun c_101 => ?_) (fun c_101 => ?_)
          · exact absurd c_101 (by decide)
          rw [← e0, ← e5]
          refine kj_aload_n X dX1_thaw_104 rfl rfl (by first | exact ⟨some _, rfl⟩ | exact ⟨none, rfl⟩ | exact ⟨_, rfl⟩) ?_
          refine kj_aload X dX1_thaw_105 rfl (by first | exact ⟨some _, rfl⟩ | exact ⟨none, rfl⟩ | exact ⟨_, rfl⟩) ?_
          refine kj_callV X 1 (ct_X1_leave X.F hok hp (fun j hj => ⟨by omega, hVU.2.1.1 j (by omega)⟩) _) (lw_V q1198 q1200 qs14 q43 q1201) ⟨rfl, by decide, by decide, by decide +kernel⟩ dX1_thaw_107 rfl rfl (by first | exact Nat.le_of_ble_eq_true rfl | simp [kr_cat, Value.category]) ⟨Nat.le_of_ble_eq_true rfl, Nat.le_of_ble_eq_true rfl⟩ ⟨by dsimp only; omega, by dsimp only; omega⟩ kc_X1.1 (fun H h => h.rc (kc_kio)) (fun E => kjx_no) (fun v_107 => ?_)
          refine kj_and (fun e_107 => ?_)
          subst e_107
          refine kj_open (fun g2 hg2 => ?_)
          have f0 : gA g2 (0, 0) = gA g' (0, 0) := (hg2.1 (0, 0) (by decide)).1
          have f5 : gA g2 (5, k) = gA g' (5, k) := (hg2.1 (5, k) (by show (5 : Nat) ∉ [6]; decide)).1
          have f7 : gA g2 (7, n) = gA g' (7, n) := (hg2.1 (7, n) (by show (7 : Nat) ∉ [6]; decide)).1
          have hkL : k < sN (oLeave U n) 1 0 := by rw [oLeave_N]; exact hkU
          have hpL : sN (oLeave U n) 15 n = 1 := by rw [oLeave_N]; exact hp
          rw [← f5, ← f7]
          refine kj_aload_n X dX1_thaw_110 rfl rfl (by first | exact ⟨some _, rfl⟩ | exact ⟨none, rfl⟩ | exact ⟨_, rfl⟩) ?_
          refine kj_aload X dX1_thaw_111 rfl (by first | exact ⟨some _, rfl⟩ | exact ⟨none, rfl⟩ | exact ⟨_, rfl⟩) ?_
          refine kj_callV X 1 (ct_X15_welcome X.F hg2.2 hkL hpL (fun z => by rw [oLeave_N] at z ⊢; exact (hPU.1.1 k).mpr ⟨hkU, z⟩) hwel) (lw_V q1173 q1174 q1175 q83 q1176) ⟨rfl, by decide, by decide, by decide +kernel⟩ dX1_thaw_113 rfl rfl (by first | exact Nat.le_of_ble_eq_true rfl | simp [kr_cat, Value.category]) ⟨Nat.le_of_ble_eq_true rfl, Nat.le_of_ble_eq_true rfl⟩ ⟨by dsimp only; omega, by dsimp only; omega⟩ kc_X15.1 (fun H h => h.rc (kc_5 hkL)) (fun E => kjx_no) (fun v_113 => ?_)
          refine kj_and (fun e_113 => ?_)
          subst e_113
          refine kj_open (fun g3 hg3 => ?_)
          rw [f5, f7, e0, e5, e40 q]
          refine kj_iinc (lv' := [_, _, _, _, _, _, _, _, _]) (w := nI (c + 1)) X dX1_thaw_116 (by decide) rfl (by intro w h _; cases h <;> first | rfl | exact kr_cat _) (nI_1 c) rfl ?_
          refine kj_goto X 40 dX1_thaw_119 (by decide) ?_
          refine nxt g3 _ _ _ _ _ (by omega) ((hs.tr hg2.1 (K := [6]) (by simp) (by simp)).tr hg3.1 (by simp) (by simp)) hg3.2 ?_ ?_
          · omega
          · omega
      have hat : nI (sN U 4 n) = nI (sN U 4 n) := rfl
      cases ho : o with
      | false =>
        subst ho
        have eC : fComes false U k n = false := rfl
        rw [eC] at h97
        refine kj_iload_n X dX1_thaw_69 rfl rfl ?_
        refine kj_if_eq X 96 dX1_thaw_70 (by decide) (fun c_70 => ?_) (fun c_70 => ?_)
        · refine kj_iconst (v := 0) X dX1_thaw_96 (by decide) ?_
          exact h97 _ _ (fun z => by rw [kr_ow_1 z]; rfl) ⟨_, rfl⟩
        · exact absurd rfl c_70
      | true =>
        subst ho
        refine kj_iload_n X dX1_thaw_69 rfl rfl ?_
        refine kj_if_eq X 96 dX1_thaw_70 (by decide) (fun c_70 => ?_) (fun c_70 => ?_)
        · exact absurd c_70 (by decide)
        by_cases h3 : sN U 3 n = 1
        · have hp : sN U 15 n = 1 := (hPU.1.1 n).mpr ⟨by omega, h3⟩
          rw [kr_ow_1 h3, show va_rf (some (gA g' (7, n))) = Value.ref (gA g' (7, n)) from rfl]
          refine kj_pure (fun H h => h.injk hdU hkU) (fun hinj => ?_)
          refine kj_aload X dX1_thaw_73 rfl (by first | exact ⟨some _, rfl⟩ | exact ⟨none, rfl⟩ | exact ⟨_, rfl⟩) ?_
          refine kj_ifnull X (by first | exact Eq.refl (va_rf (some _)) | exact Eq.refl (va_rf none) | exact Eq.refl (va_rf _)) 96 dX1_thaw_75 (by decide) (fun c_75 => ?_) (fun a_75 c_75 => ?_)
          · cases c_75
          rw [← e5] at h97 ⊢
          refine kj_aload X dX1_thaw_78 rfl (by first | exact ⟨some _, rfl⟩ | exact ⟨none, rfl⟩ | exact ⟨_, rfl⟩) ?_
          refine kj_aload_n X dX1_thaw_80 rfl rfl (by first | exact ⟨some _, rfl⟩ | exact ⟨none, rfl⟩ | exact ⟨_, rfl⟩) ?_
          refine kj_acmp_eq X (by first | exact Eq.refl (va_rf (some _)) | exact Eq.refl (va_rf none) | exact Eq.refl (va_rf _)) (by first | exact Eq.refl (va_rf (some _)) | exact Eq.refl (va_rf none) | exact Eq.refl (va_rf _)) 92 dX1_thaw_81 (by decide) (fun c_81 => ?_) (fun c_81 => ?_)
          · have e : n = k := hinj (Option.some.inj c_81)
            have eC : fComes true U k n = true := by
              unfold fComes
              rw [decide_eq_true h3, decide_eq_true e]
              rfl
            rw [eC] at h97
            refine kj_iconst (v := 1) X dX1_thaw_92 (by decide) ?_
            refine kj_goto X 97 dX1_thaw_93 (by decide) ?_
            exact h97 _ _ (fun z => rfl) ⟨some _, rfl⟩
          have e : ¬ n = k := fun z => c_81 (by rw [z])
          have k7 : ∀ t, sN U 4 n = t → kr_cells G g' U Z1 (7, n) = kr_o 5 [.int (nI n), .ref (gA g' (8, n)), va_rf (kr_op (fun i => gA g' (5, i)) t), .int (sI U 1 n), .int (sI U 2 n), .int (nI (sN U 8 n))] := fun t e => by rw [kc_7 hp, e]
          cases h4 : sN U 4 n with
          | zero =>
            have eC : fComes true U k n = true := by
              unfold fComes
              rw [decide_eq_true h3, decide_eq_true h4, decide_eq_false e]
              rfl
            rw [eC] at h97
            refine kj_aload X dX1_thaw_84 rfl (by first | exact ⟨some _, rfl⟩ | exact ⟨none, rfl⟩ | exact ⟨_, rfl⟩) ?_
            refine kj_getN X kc_X16 2 (by decide) q1143 rfl dX1_thaw_86 (fun H h => h.own (k7 0 h4)) rfl ?_
            refine kj_ifnonnull X (by first | exact Eq.refl (va_rf (some _)) | exact Eq.refl (va_rf none) | exact Eq.refl (va_rf _)) 96 dX1_thaw_89 (by decide) (fun a_89 c_89 => ?_) (fun c_89 => ?_)
            · cases c_89
            refine kj_iconst (v := 1) X dX1_thaw_92 (by decide) ?_
            refine kj_goto X 97 dX1_thaw_93 (by decide) ?_
            exact h97 _ _ (fun z => rfl) ⟨some _, rfl⟩
          | succ t =>
            have eC : fComes true U k n = false := by
              unfold fComes
              rw [decide_eq_true h3, decide_eq_false (show ¬ sN U 4 n = 0 by omega), decide_eq_false e]
              rfl
            rw [eC] at h97
            refine kj_aload X dX1_thaw_84 rfl (by first | exact ⟨some _, rfl⟩ | exact ⟨none, rfl⟩ | exact ⟨_, rfl⟩) ?_
            refine kj_getN X kc_X16 2 (by decide) q1143 rfl dX1_thaw_86 (fun H h => h.own (k7 (t + 1) h4)) rfl ?_
            refine kj_ifnonnull X (by first | exact Eq.refl (va_rf (some _)) | exact Eq.refl (va_rf none) | exact Eq.refl (va_rf _)) 96 dX1_thaw_89 (by decide) (fun a_89 c_89 => ?_) (fun c_89 => ?_)
            · refine kj_iconst (v := 0) X dX1_thaw_96 (by decide) ?_
              exact h97 _ _ (fun z => rfl) ⟨some _, rfl⟩
            · cases c_89
        · rw [kr_ow_0 h3]
          have eC : fComes true U k n = false := by
            unfold fComes
            rw [decide_eq_false h3]
            rfl
          rw [eC] at h97
          refine kj_aload X dX1_thaw_73 rfl (by first | exact ⟨some _, rfl⟩ | exact ⟨none, rfl⟩ | exact ⟨_, rfl⟩) ?_
          refine kj_ifnull X (by first | exact Eq.refl (va_rf (some _)) | exact Eq.refl (va_rf none) | exact Eq.refl (va_rf _)) 96 dX1_thaw_75 (by decide) (fun c_75 => ?_) (fun a_75 c_75 => ?_)
          · refine kj_iconst (v := 0) X dX1_thaw_96 (by decide) ?_
            exact h97 _ _ (fun z => absurd z h3) ⟨none, rfl⟩
          · cases c_75
  exact loop (sN S 1 0) 0 g (-1) none none none _ _ (by omega) kr_gsm.rf hg (by omega) (by omega)
end
