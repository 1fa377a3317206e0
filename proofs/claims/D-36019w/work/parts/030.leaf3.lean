/-! LEAVES 3: Kiosk.welcome, settle, leave, isIn -/
set_option maxRecDepth 100000
/-- what adding to a short list costs and leaves -/
theorem kr_short {z : List Nat × Int32 × Nat} (hl : z.1.length ≤ 9) (hc : z.2.2 = 0 ∨ (10 ≤ z.2.2 ∧ z.2.2 ≤ 600)) : kr_gc z ≤ 1 ∧ kr_gs z ≤ 10 ∧ (10 ≤ kr_nc z ∧ kr_nc z ≤ 600) ∨ z.1.length > z.2.2 := by
  by_cases h : z.1.length > z.2.2
  · exact Or.inr h
  left
  unfold kr_gc kr_gs kr_nc
  rcases hc with h0 | h0
  · rw [h0]
    have e : kr_cap 0 = 10 := by decide
    by_cases e2 : z.1.length = 0
    · simp only [if_pos e2, e]
      omega
    · omega
  · rw [if_neg (by omega), if_neg (by omega), if_neg (by omega)]
    omega
theorem kr_ins_end {α : Type} : ∀ (l : List α) (a : α), l.insertIdx l.length a = l ++ [a]
  | [], _ => rfl
  | b :: l, a => by
    have := kr_ins_end l a
    simp only [List.length_cons, List.insertIdx_succ_cons, this, List.cons_append]
section
variable {G : kr_G} {l : Launch} {g g' : kr_Gh} {S S' : kr_St} {Z : kr_Ro → Option kr_AE}
/-- a list's row has room for it -/
theorem kr_S.fits {ad : kr_Ro → Nat} {σ : kr_Ro → Option kr_AE} {H : Heap} {i : kr_Ro} {z : List Nat × Int32 × Nat} (h : kr_S G ad σ H) (hi : σ i = some (.inr z)) : z.1.length ≤ z.2.2 ∧ z.2.2 ≤ 1000 := by
  obtain ⟨-, bk, -, h2⟩ := h
  exact h2 i z hi
theorem ct_X1_isIn (hF : kr_F G l) {P : Heap → Prop} (v a b : Int32) : kr_T G l yX1_isIn (ws_ yX1_isIn cX1_isIn 3 (Option.some Jvm.ClassFile.FieldType.boolean)) 1 20 [.int v, .int a, .int b] P 0 0 (fun w H => w = some (.int (kr_b (decide (a ≤ v ∧ v ≤ b)))) ∧ P H) kr_no := by
  refine kr_T.of (by decide +kernel) hF (by simp [Value.category]) (Nat.le_of_ble_eq_true rfl) (fun x hx X => ?_)
  refine kj_iload_n X dX1_isIn_0 rfl rfl ?_
  refine kj_iload_n X dX1_isIn_1 rfl rfl ?_
  refine kj_icmp_lt X 14 dX1_isIn_2 (by decide) (fun c_2 => ?_) (fun c_2 => ?_)
  · refine kj_iconst (v := 0) X dX1_isIn_14 (by decide) ?_
    exact kj_zret X rfl dX1_isIn_15 (by omega) (by omega) (fun H h => ⟨by simp [kr_b, Int32.not_le.mpr c_2], h⟩)
  refine kj_iload_n X dX1_isIn_5 rfl rfl ?_
  refine kj_iload_n X dX1_isIn_6 rfl rfl ?_
  refine kj_icmp_gt X 14 dX1_isIn_7 (by decide) (fun c_7 => ?_) (fun c_7 => ?_)
  · refine kj_iconst (v := 0) X dX1_isIn_14 (by decide) ?_
    exact kj_zret X rfl dX1_isIn_15 (by omega) (by omega) (fun H h => ⟨by simp [kr_b, Int32.not_le.mpr c_7], h⟩)
  · refine kj_iconst (v := 1) X dX1_isIn_10 (by decide) ?_
    refine kj_goto X 15 dX1_isIn_11 (by decide) ?_
    exact kj_zret X rfl dX1_isIn_15 (by omega) (by omega) (fun H h => ⟨by simp [kr_b, Int32.not_lt.mp c_2, Int32.not_lt.mp c_7], h⟩)
/-- a player comes to a kiosk -/
def oW (S : kr_St) (k p : Nat) : kr_St := uL (uN S 4 p (k + 1)) 2 k (if p = k ∧ sN S 3 k = 1 then p :: sL S 2 k else sL S 2 k ++ [p])
theorem ct_X15_welcome (hF : kr_F G l) (hg : kr_gok g) {k p : Nat} (hk : k < sN S 1 0) (hp : sN S 15 p = 1) (hok : sN S 3 k = 1 → sN S 15 k = 1) (hl : (sL S 2 k).length ≤ 9) : kr_T G l yX15_welcome (ws_ yX15_welcome cX15_welcome 2 (Option.none : Option Jvm.ClassFile.FieldType)) 7 700 [.ref (gA g (5, k)), .ref (gA g (7, p))] (kr_S G (gA g) (kr_cells G g S Z)) 1 10 (fun v H => v = none ∧ kr_Hx G [6] g (oW S k p) Z H) kr_no := by
  refine kr_T.of (by decide +kernel) hF (by simp [Value.category]) (Nat.le_of_ble_eq_true rfl) (fun x hx X => ?_)
  have h6 : kr_cells G g (uN S 4 p (k + 1)) Z (6, k) = some (.inr ((sL S 2 k).map (fun i => gA g (7, i)), gM g (6, k), gC g (6, k))) := kc_6 (S := uN S 4 p (k + 1)) hk
  have hob : kr_obj (gA g) (kr_cells G g (uN S 4 p (k + 1)) Z) (gA g (7, p)) := ⟨(7, p), 5, _, kc_7 (S := uN S 4 p (k + 1)) hp, rfl, (by show (7 : Nat) ≠ 40; decide), by decide⟩
  have hc6 : gC g (6, k) ≤ 600 := by rcases hg.2.1 (6, k) with h | h <;> omega
  refine kj_aload_n X dX15_welcome_0 rfl rfl (by first | exact ⟨some _, rfl⟩ | exact ⟨none, rfl⟩ | exact ⟨_, rfl⟩) ?_
  refine kj_aload_n X dX15_welcome_1 rfl rfl (by first | exact ⟨some _, rfl⟩ | exact ⟨none, rfl⟩ | exact ⟨_, rfl⟩) ?_
  refine kj_putN X kc_X16 2 (by decide) q1142 rfl rfl dX15_welcome_2 (by first | rfl | exact kr_nar _ _ | exact kr_narb _) (by first | rfl | exact kr_fitr _ _ | exact kr_fitb _) (Nat.le_of_ble_eq_true rfl) (fun H h => h.own (kc_7 hp)) (fun H H1 h a u => h.upd (kc_7 hp) (ku_at (v := k + 1) hp) a u) ?_
  refine kj_pure (φ := (some (gA g (7, p)) = kr_ow g (sN (uN S 4 p (k + 1)) 3 k) k ↔ (p = k ∧ sN S 3 k = 1)) ∧ (sL S 2 k).length ≤ gC g (6, k)) (fun H h => ⟨?_, ?_⟩) (fun hpu => ?_)
  · show some (gA g (7, p)) = (if sN S 3 k = 1 then some (gA g (7, k)) else none) ↔ _
    by_cases h1 : sN S 3 k = 1
    · rw [if_pos h1]
      constructor
      · intro e
        exact ⟨h.injp (S := uN S 4 p (k + 1)) hp (hok h1) (Option.some.inj e), h1⟩
      · rintro ⟨rfl, -⟩
        rfl
    · rw [if_neg h1]
      constructor
      · intro e
        cases e
      · intro e
        exact absurd e.2 h1
  · have := (h.fits h6).1
    rwa [List.length_map] at this
  obtain ⟨hiff, hlen⟩ := hpu
  obtain ⟨g1, g2, g3⟩ : kr_gc ((sL S 2 k).map (fun i => gA g (7, i)), gM g (6, k), gC g (6, k)) ≤ 1 ∧ kr_gs ((sL S 2 k).map (fun i => gA g (7, i)), gM g (6, k), gC g (6, k)) ≤ 10 ∧ (10 ≤ kr_nc ((sL S 2 k).map (fun i => gA g (7, i)), gM g (6, k), gC g (6, k)) ∧ kr_nc ((sL S 2 k).map (fun i => gA g (7, i)), gM g (6, k), gC g (6, k)) ≤ 600) := by
    rcases kr_short (z := ((sL S 2 k).map (fun i => gA g (7, i)), gM g (6, k), gC g (6, k))) (by rw [List.length_map]; exact hl) (hg.2.1 _) with h | h
    · exact h
    · dsimp only at h
      rw [List.length_map] at h
      omega
  have fin : ∀ (xs : List Nat) (ys : List Nat), ys = xs.map (fun i => gA g (7, i)) → xs = (if p = k ∧ sN S 3 k = 1 then p :: sL S 2 k else sL S 2 k ++ [p]) → ∀ H, kr_S G (gA g) (kr_up (kr_cells G g (uN S 4 p (k + 1)) Z) (6, k) (some (.inr (ys, gM g (6, k) + 1, kr_nc ((sL S 2 k).map (fun i => gA g (7, i)), gM g (6, k), gC g (6, k)))))) H → kr_Hx G [6] g (oW S k p) Z H := by
    intro xs ys e1 e2 H h
    subst e1
    rw [kl_6 (S := uN S 4 p (k + 1)) hk] at h
    unfold oW
    rw [← e2]
    exact kr_Hx.of h (kr_gsm_gL (r := (6, k))) (kr_gok_gL hg (Or.inr g3))
  refine kj_aload_n X dX15_welcome_5 rfl rfl (by first | exact ⟨some _, rfl⟩ | exact ⟨none, rfl⟩ | exact ⟨_, rfl⟩) ?_
  refine kj_get X kc_X15 1 (by decide) q1068 (Or.inl rfl) dX15_welcome_6 (fun H h => h.own (kc_5 (S := uN S 4 p (k + 1)) hk)) rfl ?_
  refine kj_aload_n X dX15_welcome_9 rfl rfl (by first | exact ⟨some _, rfl⟩ | exact ⟨none, rfl⟩ | exact ⟨_, rfl⟩) ?_
  refine kj_aload_n X dX15_welcome_10 rfl rfl (by first | exact ⟨some _, rfl⟩ | exact ⟨none, rfl⟩ | exact ⟨_, rfl⟩) ?_
  refine kj_get X kc_X15 2 (by decide) q1070 (Or.inl rfl) dX15_welcome_11 (fun H h => h.own (kc_5 (S := uN S 4 p (k + 1)) hk)) rfl ?_
  refine kj_acmp_ne X (by first | exact Eq.refl (va_rf (some _)) | exact Eq.refl (va_rf none) | exact Eq.refl (va_rf _)) (by first | exact Eq.refl (va_rf (some _)) | exact Eq.refl (va_rf none) | exact Eq.refl (va_rf _)) 21 dX15_welcome_14 (by decide) (fun c_14 => ?_) (fun c_14 => ?_)
  · have e : ¬ (p = k ∧ sN S 3 k = 1) := fun z => c_14 (hiff.mpr z)
    refine kj_aload_n X dX15_welcome_21 rfl rfl (by first | exact ⟨some _, rfl⟩ | exact ⟨none, rfl⟩ | exact ⟨_, rfl⟩) ?_
    refine kj_get X kc_X15 1 (by decide) q1068 (Or.inl rfl) dX15_welcome_22 (fun H h => h.own (kc_5 (S := uN S 4 p (k + 1)) hk)) rfl ?_
    refine kj_callF X 0 (ct_J2_size X.F h6) q1178 q481 q483 q46 q485 q480 q479 q484 q482 q148 ⟨by decide, by decide, by decide +kernel⟩ dX15_welcome_25 rfl rfl (by first | exact Nat.le_of_ble_eq_true rfl | simp [kr_cat, Value.category]) ⟨Nat.le_of_ble_eq_true rfl, Nat.le_of_ble_eq_true rfl⟩ ⟨by dsimp only; omega, by dsimp only; omega⟩ kc_J2.1 (fun H h => h.list (h6)) (fun E => kjx_no) (fun v_25 => ?_)
    refine kj_and (fun e_25 => ?_)
    subst e_25
    refine kj_aload_n X dX15_welcome_30 rfl rfl (by first | exact ⟨some _, rfl⟩ | exact ⟨none, rfl⟩ | exact ⟨_, rfl⟩) ?_
    refine kj_callF X 2 (ct_J2_add_3 X.F hg.1 h6 (k := ((sL S 2 k).map (fun i => gA g (7, i))).length) (e := gA g (7, p)) (Nat.le_refl _) hob hc6) q1180 q719 q721 q46 q723 q718 q717 q722 q720 q148 ⟨by decide, by decide, by decide +kernel⟩ dX15_welcome_31 rfl rfl (by first | exact Nat.le_of_ble_eq_true rfl | simp [kr_cat, Value.category]) ⟨Nat.le_of_ble_eq_true rfl, Nat.le_of_ble_eq_true rfl⟩ ⟨by dsimp only; omega, by dsimp only; omega⟩ kc_J2.1 (fun H h => h.list (h6)) (fun E => kjx_no) (fun v_31 => ?_)
    refine kj_and (fun e_31 => ?_)
    subst e_31
    exact kj_vret X dX15_welcome_36 (by omega) (by omega) (fun H h => ⟨rfl, fin (sL S 2 k ++ [p]) _ (by rw [kr_ins_end, List.map_append]; rfl) (by rw [if_neg e]) H h⟩)
  · have e : p = k ∧ sN S 3 k = 1 := hiff.mp c_14
    refine kj_iconst (v := 0) X dX15_welcome_17 (by decide) ?_
    refine kj_goto X 30 dX15_welcome_18 (by decide) ?_
    refine kj_aload_n X dX15_welcome_30 rfl rfl (by first | exact ⟨some _, rfl⟩ | exact ⟨none, rfl⟩ | exact ⟨_, rfl⟩) ?_
    refine kj_P (P' := kr_S G (gA g) (kr_cells G g (uN S 4 p (k + 1)) Z)) (fun H h => h) ?_
    refine kj_callF X 2 (ct_J2_add_3 X.F hg.1 h6 (k := 0) (e := gA g (7, p)) (Nat.zero_le _) hob hc6) q1180 q719 q721 q46 q723 q718 q717 q722 q720 q148 ⟨by decide, by decide, by decide +kernel⟩ dX15_welcome_31 rfl rfl (by first | exact Nat.le_of_ble_eq_true rfl | simp [kr_cat, Value.category]) ⟨Nat.le_of_ble_eq_true rfl, Nat.le_of_ble_eq_true rfl⟩ ⟨by dsimp only; omega, by dsimp only; omega⟩ kc_J2.1 (fun H h => h.list (h6)) (fun E => kjx_no) (fun v_31 => ?_)
    refine kj_and (fun e_31 => ?_)
    subst e_31
    exact kj_vret X dX15_welcome_36 (by omega) (by omega) (fun H h => ⟨rfl, fin (p :: sL S 2 k) _ (by simp) (by rw [if_pos e]) H h⟩)
/-- a player settles: at kiosk k (k + 1), or nowhere (0) -/
def oSet (S : kr_St) (p n : Nat) : kr_St := match n with
  | 0 => uN S 4 p 0
  | k + 1 => oW (uN S 4 p 0) k p
theorem ct_X1_settle (hF : kr_F G l) (hg : kr_gok g) {p n : Nat} (hp : sN S 15 p = 1) (hn : ∀ k, n = k + 1 → k < sN S 1 0 ∧ (sN S 3 k = 1 → sN S 15 k = 1) ∧ (sL S 2 k).length ≤ 9) (a0 : Nat) : kr_T G l yX1_settle (ws_ yX1_settle cX1_settle 3 (Option.none : Option Jvm.ClassFile.FieldType)) 8 800 [.ref a0, .ref (gA g (7, p)), va_rf (kr_op (fun i => gA g (5, i)) n)] (kr_S G (gA g) (kr_cells G g S Z)) 1 10 (fun v H => v = none ∧ kr_Hx G [6] g (oSet S p n) Z H) kr_no := by
  refine kr_T.of (by decide +kernel) hF (by intro w hw; simp only [List.mem_cons, List.not_mem_nil, or_false] at hw; rcases hw with e | e | e <;> subst e <;> first | rfl | exact kr_cat _) (Nat.le_of_ble_eq_true rfl) (fun x hx X => ?_)
  refine kj_aload_n X dX1_settle_0 rfl rfl (by first | exact ⟨some _, rfl⟩ | exact ⟨none, rfl⟩ | exact ⟨_, rfl⟩) ?_
  refine kj_null X dX1_settle_1 ?_
  refine kj_putN X kc_X16 2 (by decide) q1143 rfl rfl dX1_settle_2 (by first | rfl | exact kr_nar _ _ | exact kr_narb _) (by first | rfl | exact kr_fitr _ _ | exact kr_fitb _) (Nat.le_of_ble_eq_true rfl) (fun H h => h.own (kc_7 hp)) (fun H H1 h a u => h.upd (kc_7 hp) (ku_at (v := 0) hp) a u) ?_
  refine kj_aload_n X dX1_settle_5 rfl rfl (by first | exact ⟨some _, rfl⟩ | exact ⟨none, rfl⟩ | exact ⟨_, rfl⟩) ?_
  cases n with
  | zero =>
    refine kj_ifnull X (by first | exact Eq.refl (va_rf (some _)) | exact Eq.refl (va_rf none) | exact Eq.refl (va_rf _)) 14 dX1_settle_6 (by decide) (fun c_6 => ?_) (fun a_6 c_6 => ?_)
    · exact kj_vret X dX1_settle_14 (by omega) (by omega) (fun H h => ⟨rfl, kr_Hx.of h kr_gsm.rf hg⟩)
    · cases c_6
  | succ k =>
    obtain ⟨n1, n2, n3⟩ := hn k rfl
    refine kj_ifnull X (by first | exact Eq.refl (va_rf (some _)) | exact Eq.refl (va_rf none) | exact Eq.refl (va_rf _)) 14 dX1_settle_6 (by decide) (fun c_6 => ?_) (fun a_6 c_6 => ?_)
    · cases c_6
    · refine kj_aload_n X dX1_settle_9 rfl rfl (by first | exact ⟨some _, rfl⟩ | exact ⟨none, rfl⟩ | exact ⟨_, rfl⟩) ?_
      refine kj_aload_n X dX1_settle_10 rfl rfl (by first | exact ⟨some _, rfl⟩ | exact ⟨none, rfl⟩ | exact ⟨_, rfl⟩) ?_
      refine kj_callV X 1 (ct_X15_welcome (S := uN S 4 p 0) X.F hg (k := k) (p := p) n1 hp n2 n3) (lw_V q1173 q1174 q1175 q83 q1176) ⟨rfl, by decide, by decide, by decide +kernel⟩ dX1_settle_11 rfl rfl (by first | exact Nat.le_of_ble_eq_true rfl | simp [kr_cat, Value.category]) ⟨Nat.le_of_ble_eq_true rfl, Nat.le_of_ble_eq_true rfl⟩ ⟨by dsimp only; omega, by dsimp only; omega⟩ kc_X15.1 (fun H h => h.rc (kc_5 (S := uN S 4 p 0) n1)) (fun E => kjx_no) (fun v_11 => ?_)
      refine kj_and (fun e_11 => ?_)
      subst e_11
      exact kj_vret X dX1_settle_14 (by omega) (by omega) (fun H h => ⟨rfl, h⟩)
/-- a player leaves where it plays -/
def oLeave (S : kr_St) (p : Nat) : kr_St := match sN S 4 p with
  | 0 => S
  | k + 1 => uL S 2 k ((sL S 2 k).erase p)
theorem kr_map_mem {g : kr_Gh} {S : kr_St} {Z : kr_Ro → Option kr_AE} {H : Heap} (h : kr_S G (gA g) (kr_cells G g S Z) H) {xs : List Nat} (hx : ∀ q ∈ xs, sN S 15 q = 1) {p : Nat} (hp : sN S 15 p = 1) : (gA g (7, p) ∈ xs.map (fun i => gA g (7, i)) ↔ p ∈ xs) ∧ (xs.map (fun i => gA g (7, i))).erase (gA g (7, p)) = (xs.erase p).map (fun i => gA g (7, i)) := by
  induction xs with
  | nil => simp
  | cons a xs ih =>
    obtain ⟨i1, i2⟩ := ih (fun q hq => hx q (List.mem_cons_of_mem _ hq))
    have ha := hx a List.mem_cons_self
    by_cases e : a = p
    · subst e
      simp
    · have e2 : ¬ gA g (7, a) = gA g (7, p) := fun z => e (h.injp ha hp z)
      refine ⟨?_, ?_⟩
      · simp only [List.map_cons, List.mem_cons, i1]
        constructor
        · rintro (z | z)
          · exact absurd z.symm e2
          · exact Or.inr z
        · rintro (z | z)
          · exact absurd z.symm e
          · exact Or.inr z
      · rw [List.map_cons, List.erase_cons_tail (by simpa using e2), List.erase_cons_tail (by simpa using e), List.map_cons, i2]
theorem ct_X1_leave (hF : kr_F G l) (hg : kr_gok g) {p : Nat} (hp : sN S 15 p = 1) (hn : ∀ k, sN S 4 p = k + 1 → k < sN S 1 0 ∧ ∀ q ∈ sL S 2 k, sN S 15 q = 1) (a0 : Nat) : kr_T G l yX1_leave (ws_ yX1_leave cX1_leave 3 (Option.none : Option Jvm.ClassFile.FieldType)) 4 300 [.ref a0, .ref (gA g (7, p))] (kr_S G (gA g) (kr_cells G g S Z)) 0 0 (fun v H => v = none ∧ kr_Hx G [6] g (oLeave S p) Z H) kr_no := by
  refine kr_T.of (by decide +kernel) hF (by simp [Value.category]) (Nat.le_of_ble_eq_true rfl) (fun x hx X => ?_)
  have k7 : ∀ n, sN S 4 p = n → kr_cells G g S Z (7, p) = kr_o 5 [.int (nI p), .ref (gA g (8, p)), va_rf (kr_op (fun i => gA g (5, i)) n), .int (sI S 1 p), .int (sI S 2 p), .int (nI (sN S 8 p))] := fun n e => by rw [kc_7 hp, e]
  unfold oLeave
  cases e : sN S 4 p with
  | zero =>
    refine kj_aload_n X dX1_leave_0 rfl rfl (by first | exact ⟨some _, rfl⟩ | exact ⟨none, rfl⟩ | exact ⟨_, rfl⟩) ?_
    refine kj_getN X kc_X16 2 (by decide) q1143 rfl dX1_leave_1 (fun H h => h.own (k7 0 e)) rfl ?_
    refine kj_ifnull X (by first | exact Eq.refl (va_rf (some _)) | exact Eq.refl (va_rf none) | exact Eq.refl (va_rf _)) 21 dX1_leave_4 (by decide) (fun c_4 => ?_) (fun a_4 c_4 => ?_)
    · exact kj_vret X dX1_leave_21 (by omega) (by omega) (fun H h => ⟨rfl, kr_Hx.of h kr_gsm.rf hg⟩)
    · cases c_4
  | succ k =>
    obtain ⟨n1, n2⟩ := hn k e
    refine kj_aload_n X dX1_leave_0 rfl rfl (by first | exact ⟨some _, rfl⟩ | exact ⟨none, rfl⟩ | exact ⟨_, rfl⟩) ?_
    refine kj_getN X kc_X16 2 (by decide) q1143 rfl dX1_leave_1 (fun H h => h.own (k7 (k + 1) e)) rfl ?_
    refine kj_ifnull X (by first | exact Eq.refl (va_rf (some _)) | exact Eq.refl (va_rf none) | exact Eq.refl (va_rf _)) 21 dX1_leave_4 (by decide) (fun c_4 => ?_) (fun a_4 c_4 => ?_)
    · cases c_4
    refine kj_pure (φ := (sL S 2 k).map (fun i => gA g (7, i)) |>.erase (gA g (7, p)) |> (· = ((sL S 2 k).erase p).map (fun i => gA g (7, i)))) (fun H h => (kr_map_mem h n2 hp).2) (fun her => ?_)
    refine kj_aload_n X dX1_leave_7 rfl rfl (by first | exact ⟨some _, rfl⟩ | exact ⟨none, rfl⟩ | exact ⟨_, rfl⟩) ?_
    refine kj_getN X kc_X16 2 (by decide) q1143 rfl dX1_leave_8 (fun H h => h.own (k7 (k + 1) e)) rfl ?_
    refine kj_getN X kc_X15 1 (by decide) q1069 rfl dX1_leave_11 (fun H h => h.own (kc_5 n1)) rfl ?_
    refine kj_aload_n X dX1_leave_14 rfl rfl (by first | exact ⟨some _, rfl⟩ | exact ⟨none, rfl⟩ | exact ⟨_, rfl⟩) ?_
    refine kj_callF X 1 (ct_J2_remove_2 X.F (kc_6 n1) (kc_7 hp)) q1203 q1206 q1208 q46 q1210 q1205 q1204 q1209 q1207 q148 ⟨by decide, by decide, by decide +kernel⟩ dX1_leave_15 rfl rfl (by first | exact Nat.le_of_ble_eq_true rfl | simp [kr_cat, Value.category]) ⟨Nat.le_of_ble_eq_true rfl, Nat.le_of_ble_eq_true rfl⟩ ⟨by dsimp only; omega, by dsimp only; omega⟩ kc_J2.1 (fun H h => h.list (kc_6 n1)) (fun E => kjx_no) (fun v_15 => ?_)
    refine kj_open (α := Int32) (φ := fun _ => v_15 = some (.int (kr_b (decide (gA g (7, p) ∈ (sL S 2 k).map (fun i => gA g (7, i))))))) (fun mc hv => ?_)
    subst hv
    refine kj_istore_n (lv' := [_, _, _]) X dX1_leave_20 rfl (by decide) (by intro w h _; cases h <;> first | rfl | exact kr_cat _) rfl ?_
    exact kj_vret X dX1_leave_21 (by omega) (by omega) (fun H h => ⟨rfl, kr_Hx.of (g' := gL g (6, k) mc (gC g (6, k))) (by rw [← kl_6 n1]; rw [← her]; exact h) (kr_gsm_gL (r := (6, k))) (kr_gok_gL hg (hg.2.1 _))⟩)
end
