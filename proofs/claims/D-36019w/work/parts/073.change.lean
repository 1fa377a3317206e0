/-! CHANGE: a list's row is made anew -/
set_option maxRecDepth 100000
/-- the first j of xs -/
def kr_pre (xs : List Nat) (j : Nat) : Nat → Option Nat := fun t => if t < j then xs[t]? else none
theorem kr_pre_0 {xs : List Nat} : kr_pre xs 0 = fun _ => none := funext fun t => if_neg (Nat.not_lt_zero t)
theorem kr_pre_all {xs : List Nat} : kr_pre xs xs.length = fun t => xs[t]? := funext fun t => by
  unfold kr_pre
  split
  · rfl
  · rename_i h
    exact (List.getElem?_eq_none (Nat.not_lt.mp h)).symm
theorem kr_pre_up {xs : List Nat} {j q : Nat} (h : xs[j]? = some q) : (va_up (kr_pre xs j) j (some q) : Nat → Option Nat) = kr_pre xs (j + 1) := by
  funext t
  unfold va_up kr_pre
  by_cases e : t = j
  · rw [if_pos e, if_pos (by omega), e, h]
  · rw [if_neg e]
    by_cases e2 : t < j
    · rw [if_pos e2, if_pos (by omega)]
    · rw [if_neg e2, if_neg (by omega)]
section
variable {G : kr_G} {l : Launch} {g g' : kr_Gh} {S S' : kr_St} {Z Z' : kr_Ro → Option kr_AE}
theorem kr_S.newNow {H : Heap} {i q : Nat} (hI : kr_I S) (hi : i < sN S 0 0) (hg : kr_gok g) (hZ : ∀ r z, Z r ≠ some (.inr z)) (hq : Z (20, q) = none)
    (h : kr_S G (gA g) (kr_up (kr_cells G g S (kr_up Z (20, q) (kr_al G (sL S 0 i)))) (2, i) (kr_o 3 [.ref (gA g (3, i)), .ref q])) H) : kr_Hx G [4] g (uL S 1 i (sL S 0 i)) Z H := by
  have hgk : kr_gok (gNew g [((4, i), q)]) := kr_gok_new hg (by simp)
  have eA1 : ∀ c x : Nat, c ≠ 4 → gA (gNew g [((4, i), q)]) (c, x) = gA g (c, x) := fun c x c2 => gNew_n (by simp; omega)
  have eAx : ∀ c x : Nat, x ≠ i → gA (gNew g [((4, i), q)]) (c, x) = gA g (c, x) := fun c x hx => gNew_n (by simp; omega)
  have a4 : gA (gNew g [((4, i), q)]) (4, i) = q := gNew_s
  have eM : ∀ r, gM (gNew g [((4, i), q)]) r = gM g r ∧ gC (gNew g [((4, i), q)]) r = gC g r := fun r => ⟨rfl, rfl⟩
  have hgs : kr_gsm [4] g (gNew g [((4, i), q)]) := kr_gsm_new (K := [4]) (by simp)
  generalize gNew g [((4, i), q)] = g2 at *
  have hI2 : kr_I (uL S 1 i (sL S 0 i)) := by
    obtain ⟨i1, i2, i3, i4⟩ := hI
    exact ⟨i1, i2, i3, i4⟩
  have eL1 : ∀ b, sL (uL S 1 i (sL S 0 i)) 1 b = if b = i then sL S 0 i else sL S 1 b := fun b => by
    rw [sL_uL]
    by_cases e : b = i
    · rw [if_pos ⟨rfl, e⟩, if_pos e]
    · rw [if_neg (fun z => e z.2), if_neg e]
  have eL : ∀ a b, a ≠ 1 → sL (uL S 1 i (sL S 0 i)) a b = sL S a b := fun a b ha => by rw [sL_uL, if_neg (fun z => ha z.1)]
  refine kr_Hx.of (kr_S.ren h [((4, i), q)] ?_ ?_ (fun r hr c hc => ?_) ?_ (hI2.elem hgk.1 hZ)) hgs hgk
  · simp only [List.mem_cons, List.not_mem_nil, or_false]
    rintro e rfl e' rfl z
    rfl
  · simp only [List.mem_cons, List.not_mem_nil, or_false]
    rintro e rfl
    refine ⟨?_, (hg.2.2 q).trans a4.symm⟩
    rw [kr_up_n (fun z => absurd (Prod.mk.inj z).1 (by decide)), kc_Z2, kr_up_s]
    exact ((kc_4 (S := uL S 1 i (sL S 0 i)) (g := g2) (Z := Z) (k := i) hi).trans (by rw [eL1, if_pos rfl])).symm
  · simp only [List.mem_cons, List.not_mem_nil, or_false, forall_eq] at hr
    by_cases r2 : r = (2, i)
    · subst r2
      rw [kc_2 (S := uL S 1 i (sL S 0 i)) hi] at hc
      rw [kr_up_s, ← hc, a4, eA1 3 i (by decide)]
      exact ⟨rfl, (eA1 2 i (by decide)).symm⟩
    rw [kr_up_n r2]
    obtain ⟨a, b⟩ := r
    by_cases h18 : 18 ≤ a
    · rw [kc_Z (r := (a, b)) h18] at hc ⊢
      refine ⟨?_, (eA1 a b (by omega)).symm⟩
      rw [kr_up_n (fun z => by rw [z, hq] at hc; cases hc)]
      exact hc
    have hb4 : a = 4 → b ≠ i := by
      rintro rfl z
      exact hr (by rw [z])
    have hb2 : a = 2 → b ≠ i := by
      rintro rfl z
      exact r2 (by rw [z])
    refine ⟨?_, ?_⟩
    rotate_left
    · by_cases e : a = 4
      · exact (eAx a b (hb4 e)).symm
      · exact (eA1 a b e).symm
    rcases (show a = 0 ∨ a = 1 ∨ a = 2 ∨ a = 3 ∨ a = 4 ∨ a = 5 ∨ a = 6 ∨ a = 7 ∨ a = 8 ∨ a = 9 ∨ a = 10 ∨ a = 11 ∨ a = 12 ∨ a = 13 ∨ a = 14 ∨ a = 15 ∨ a = 16 ∨ a = 17 by omega) with rfl | rfl | rfl | rfl | rfl | rfl | rfl | rfl | rfl | rfl | rfl | rfl | rfl | rfl | rfl | rfl | rfl | rfl
    case inr.inr.inl =>
      replace hc : (if b < sN S 0 0 then kr_o 3 [.ref (gA g2 (3, b)), .ref (gA g2 (4, b))] else none) = some c := hc
      rw [eA1 3 b (by decide), eAx 4 b (hb2 rfl)] at hc
      exact hc
    case inr.inr.inr.inr.inl =>
      replace hc : (if b < sN S 0 0 then kr_al G (sL (uL S 1 i (sL S 0 i)) 1 b) else none) = some c := hc
      rw [eL1, if_neg (hb4 rfl)] at hc
      exact hc
    all_goals first | exact hc | (rw [← hc]; simp only [kr_cells]; simp [kr_li, kr_ow, eA1, eM, sI_uL, sN_uL, sD_uL, eL]; done)
  · simp only [List.mem_cons, List.not_mem_nil, or_false]
    rintro e rfl
    rw [kc_Z2]
    exact hq
theorem ct_X4_change (hF : kr_F G l) (hg : kr_gok g) {i : Nat} (hi : i < sN S 0 0) (hI : kr_I S) (hlen : (sL S 0 i).length ≤ 20) (hZ : ∀ r z, Z r ≠ some (.inr z)) : kr_T G l yX4_change (ws_ yX4_change cX4_change 2 (Option.none : Option Jvm.ClassFile.FieldType)) 6 400 [.ref (gA g (2, i))] (kr_S G (gA g) (kr_cells G g S Z)) 1 20 (fun v H => v = none ∧ kr_Hx G [4] g (uL S 1 i (sL S 0 i)) Z H) kr_no := by
  refine kr_T.of (by decide +kernel) hF (by simp [Value.category]) (Nat.le_of_ble_eq_true rfl) (fun x hx X => ?_)
  have hn : (nI (sL S 0 i).length).toNatClampNeg = (sL S 0 i).length := nI_clamp (by omega)
  refine kj_aload_n X dX4_change_0 rfl rfl (by first | exact ⟨some _, rfl⟩ | exact ⟨none, rfl⟩ | exact ⟨_, rfl⟩) ?_
  refine kj_aload_n X dX4_change_1 rfl rfl (by first | exact ⟨some _, rfl⟩ | exact ⟨none, rfl⟩ | exact ⟨_, rfl⟩) ?_
  refine kj_get X kc_X4 0 (by decide) q514 (Or.inl rfl) dX4_change_2 (fun H h => h.own (kc_2 hi)) rfl ?_
  refine kj_callF X 0 (ct_J2_size X.F (kc_3 hi)) q967 q481 q483 q46 q485 q480 q479 q484 q482 q148 ⟨by decide, by decide, by decide +kernel⟩ dX4_change_5 rfl rfl (by first | exact Nat.le_of_ble_eq_true rfl | simp [kr_cat, Value.category]) ⟨Nat.le_of_ble_eq_true rfl, Nat.le_of_ble_eq_true rfl⟩ ⟨by dsimp only; omega, by dsimp only; omega⟩ kc_J2.1 (fun H h => h.list (kc_3 hi)) (fun E => kjx_no) (fun v_5 => ?_)
  refine kj_and (fun e_5 => ?_)
  subst e_5
  refine kj_wide (cs' := 0) (ss' := 20 - (sL S 0 i).length) (by omega) (by omega) ?_
  rw [show (sL S 0 i, gM g (3, i), gC g (3, i)).1.length = (sL S 0 i).length from rfl]
  refine kj_anew (Pn := fun q2 H => Z (20, q2) = none ∧ kr_S G (gA g) (kr_cells G g S (kr_up Z (20, q2) (kr_al7 G (sL S 0 i).length (kr_pre (sL S 0 i) 0)))) H) X 7 rfl q512 q513 dX4_change_10 (nI_pos (by omega)) hn (by omega) (by dsimp only; omega) (by dsimp only; omega) (fun H H1 h ho a u => by rw [kr_pre_0]; exact h.mk2 (e := .inl (.inl (kg_A G 7, (sL S 0 i).length, .inr (.inr (.inr (.inr (fun _ => none))))))) hg a ho u) (fun q => ?_)
  refine kj_and (fun hq => ?_)
  rw [show Value.ref q = Value.ref (gA g (20, q)) from by rw [hg.2.2 q]]
  refine kj_put X kc_X4 1 (by decide) q517 (Or.inl rfl) rfl dX4_change_13 (by first | rfl | exact kr_nar _ _ | exact kr_narb _) (by first | rfl | exact kr_fitr _ _ | exact kr_fitb _) (Nat.le_of_ble_eq_true rfl) (fun H h => h.own (kc_2 hi)) (fun H H1 h a u => h.upd (fs' := [.ref (gA g (3, i)), .ref (gA g (20, q))]) (kc_2 hi) rfl a u) ?_
  refine kj_iconst (v := 0) X dX4_change_16 (by decide) ?_
  refine kj_istore_n (lv' := [_, _]) X dX4_change_17 rfl (by decide) (by intro w h _; cases h <;> first | rfl | exact kr_cat _) rfl ?_
  have s2 : ∀ A, kr_up (kr_cells G g S (kr_up Z (20, q) A)) (2, i) (kr_o 3 [.ref (gA g (3, i)), .ref (gA g (20, q))]) (2, i) = kr_o 3 [.ref (gA g (3, i)), .ref (gA g (20, q))] := fun A => kr_up_s
  have s20 : ∀ A, kr_up (kr_cells G g S (kr_up Z (20, q) A)) (2, i) (kr_o 3 [.ref (gA g (3, i)), .ref (gA g (20, q))]) (20, q) = A := fun A => by rw [kr_up_n (fun z => absurd (Prod.mk.inj z).1 (by decide)), kc_Z2, kr_up_s]
  have s3 : ∀ A, kr_up (kr_cells G g S (kr_up Z (20, q) A)) (2, i) (kr_o 3 [.ref (gA g (3, i)), .ref (gA g (20, q))]) (3, i) = some (.inr (sL S 0 i, gM g (3, i), gC g (3, i))) := fun A => by rw [kr_up_n (fun z => absurd (Prod.mk.inj z).1 (by decide)), kc_3 hi]
  have s17 : ∀ A b, sN S 12 b ≠ 0 → kr_up (kr_cells G g S (kr_up Z (20, q) A)) (2, i) (kr_o 3 [.ref (gA g (3, i)), .ref (gA g (20, q))]) (17, b) = kr_o (sN S 12 b) [.int (sI S 6 b)] := fun A b hb => by rw [kr_up_n (fun z => absurd (Prod.mk.inj z).1 (by decide)), kc_17 hb]
  have loop : ∀ m j, j + m = (sL S 0 i).length → kr_J G x 2 (kr_Q G x 1 20 (fun v H => v = none ∧ kr_Hx G [4] g (uL S 1 i (sL S 0 i)) Z H) kr_no) (kr_S G (gA g) (kr_up (kr_cells G g S (kr_up Z (20, q) (kr_al7 G (sL S 0 i).length (kr_pre (sL S 0 i) j)))) (2, i) (kr_o 3 [.ref (gA g (3, i)), .ref (gA g (20, q))]))) 1 20 18 [some (.ref (gA g (2, i))), some (.int (nI j))] [] := by
    intro m
    induction m with
    | zero =>
      intro j hj
      obtain rfl : j = (sL S 0 i).length := by omega
      refine kj_iload_n X dX4_change_18 rfl rfl ?_
      refine kj_aload_n X dX4_change_19 rfl rfl (by first | exact ⟨some _, rfl⟩ | exact ⟨none, rfl⟩ | exact ⟨_, rfl⟩) ?_
      refine kj_get X kc_X4 1 (by decide) q517 (Or.inl rfl) dX4_change_20 (fun H h => h.own (s2 _)) rfl ?_
      refine kj_alen X 7 rfl dX4_change_23 (fun H h => h.own (s20 _)) rfl ?_
      rw [show Int32.ofNat (sL S 0 i).length = nI (sL S 0 i).length from rfl]
      refine kj_icmp_ge X 52 dX4_change_24 (by decide) (fun c_24 => ?_) (fun c_24 => ?_)
      · rw [kr_pre_all]
        exact kj_vret X dX4_change_52 (by omega) (by omega) (fun H h => ⟨rfl, kr_S.newNow hI hi hg hZ hq (by rw [hg.2.2 q] at h; exact h)⟩)
      · exact absurd (Int32.le_refl _) c_24
    | succ m ih =>
      intro j hj
      have hlt : j < (sL S 0 i).length := by omega
      have hb : (sL S 0 i)[j]? = some (sL S 0 i)[j] := List.getElem?_eq_getElem hlt
      have hcb := hI.2.2.1 i hi _ (List.getElem_mem hlt)
      generalize (sL S 0 i)[j] = b at hb hcb
      obtain ⟨C, T, N, k1, k2⟩ := kr_castL _ hcb.1 hcb.2
      refine kj_iload_n X dX4_change_18 rfl rfl ?_
      refine kj_aload_n X dX4_change_19 rfl rfl (by first | exact ⟨some _, rfl⟩ | exact ⟨none, rfl⟩ | exact ⟨_, rfl⟩) ?_
      refine kj_get X kc_X4 1 (by decide) q517 (Or.inl rfl) dX4_change_20 (fun H h => h.own (s2 _)) rfl ?_
      refine kj_alen X 7 rfl dX4_change_23 (fun H h => h.own (s20 _)) rfl ?_
      rw [show Int32.ofNat (sL S 0 i).length = nI (sL S 0 i).length from rfl]
      refine kj_icmp_ge X 52 dX4_change_24 (by decide) (fun c_24 => ?_) (fun c_24 => ?_)
      · exact absurd c_24 (nI_ge hlt (by omega))
      refine kj_aload_n X dX4_change_27 rfl rfl (by first | exact ⟨some _, rfl⟩ | exact ⟨none, rfl⟩ | exact ⟨_, rfl⟩) ?_
      refine kj_get X kc_X4 1 (by decide) q517 (Or.inl rfl) dX4_change_28 (fun H h => h.own (s2 _)) rfl ?_
      refine kj_iload_n X dX4_change_31 rfl rfl ?_
      refine kj_aload_n X dX4_change_32 rfl rfl (by first | exact ⟨some _, rfl⟩ | exact ⟨none, rfl⟩ | exact ⟨_, rfl⟩) ?_
      refine kj_get X kc_X4 0 (by decide) q514 (Or.inl rfl) dX4_change_33 (fun H h => h.own (s2 _)) rfl ?_
      refine kj_iload_n X dX4_change_36 rfl rfl ?_
      refine kj_callF X 1 (ct_J2_get X.F (s3 _) (k := j) (a := gA g (17, b)) (by rw [(hg.1 b).2]; exact hb)) q969 q590 q592 q46 q594 q589 q588 q593 q591 q148 ⟨by decide, by decide, by decide +kernel⟩ dX4_change_37 rfl rfl (by first | exact Nat.le_of_ble_eq_true rfl | simp [kr_cat, Value.category]) ⟨Nat.le_of_ble_eq_true rfl, Nat.le_of_ble_eq_true rfl⟩ ⟨by dsimp only; omega, by dsimp only; omega⟩ kc_J2.1 (fun H h => h.list (s3 _)) (fun E => kjx_no) (fun v_37 => ?_)
      refine kj_and (fun e_37 => ?_)
      subst e_37
      refine kj_ccast X k1 q512 k2 dX4_change_42 (fun H h => h.at (s17 _ b (by omega))) ?_
      refine kj_aast (P' := kr_S G (gA g) (kr_up (kr_cells G g S (kr_up Z (20, q) (kr_al7 G (sL S 0 i).length (kr_pre (sL S 0 i) (j + 1))))) (2, i) (kr_o 3 [.ref (gA g (3, i)), .ref (gA g (20, q))]))) X 7 rfl k1 (Or.inr k2) dX4_change_45 (fun H h => h.own (s20 _)) (fun H h => h.at (s17 _ b (by omega))) (vp_in_nI hlt (by omega)) (fun H H1 h a u => ?_) ?_
      · rw [nI_clamp (by omega), (hg.1 b).2, kr_pre_up hb] at a
        refine h.upa (s20 _) ?_ a u
        rw [kr_up_sw (fun z => absurd (Prod.mk.inj z).1 (by decide)), kc_up2, kr_up_up]
      refine kj_iinc (lv' := [_, _]) (w := nI (j + 1)) X dX4_change_46 (by decide) rfl (by intro w h _; cases h <;> first | rfl | exact kr_cat _) (nI_1 j) rfl ?_
      refine kj_goto X 18 dX4_change_49 (by decide) ?_
      exact ih (j + 1) (by omega)
  refine kj_wide (cs' := 1) (ss' := 20) (by omega) (by omega) ?_
  exact loop (sL S 0 i).length 0 (by omega)
end
