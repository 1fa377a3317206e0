/-! FRAMES: new things that will last (roles 20) -/
set_option maxRecDepth 100000
theorem kr_castL : ∀ c, 8 ≤ c → c ≤ 16 → ∃ (C : String) (T : u_T) (N : Nat), kr_cl[c]? = some (C, T, N) ∧ Cond.castable C "KioskReel$Line" ∈ lw_tbl := by
  intro c h1 h2
  rcases (show c = 8 ∨ c = 9 ∨ c = 10 ∨ c = 11 ∨ c = 12 ∨ c = 13 ∨ c = 14 ∨ c = 15 ∨ c = 16 by omega) with rfl | rfl | rfl | rfl | rfl | rfl | rfl | rfl | rfl
  · exact ⟨_, _, _, kc_X6.1, q1884⟩
  · exact ⟨_, _, _, kc_X7.1, q1881⟩
  · exact ⟨_, _, _, kc_X8.1, q1885⟩
  · exact ⟨_, _, _, kc_X9.1, q1877⟩
  · exact ⟨_, _, _, kc_X10.1, q1878⟩
  · exact ⟨_, _, _, kc_X11.1, q1879⟩
  · exact ⟨_, _, _, kc_X12.1, q1880⟩
  · exact ⟨_, _, _, kc_X13.1, q1883⟩
  · exact ⟨_, _, _, kc_X14.1, q1882⟩
/-- a row of lines -/
abbrev kr_al7 (G : kr_G) (n : Nat) (f : Nat → Option Nat) : Option kr_AE := some (.inl (.inl (.inl (kg_A G 7, n, .inr (.inr (.inr (.inr f)))))))
section
variable {G : kr_G} {l : Launch} {g g' : kr_Gh} {S S' : kr_St} {Z : kr_Ro → Option kr_AE}
theorem kc_Z2 {q : Nat} : kr_cells G g S Z (20, q) = Z (20, q) := kc_Z (r := (20, q)) (by show 18 ≤ 20; decide)
theorem kc_up2 {q : Nat} {e : Option kr_AE} : kr_up (kr_cells G g S Z) (20, q) e = kr_cells G g S (kr_up Z (20, q) e) := kc_up (r := (20, q)) (by show 18 ≤ 20; decide)
theorem kr_S.mk2 {H H1 : Heap} (h : kr_S G (gA g) (kr_cells G g S Z) H) (hg : kr_gok g) {e : kr_E} (ha : kr_is G H.size e H1) (ho : kr_old G H.size) (u : kr_new H H1) : Z (20, H.size) = none ∧ kr_S G (gA g) (kr_cells G g S (kr_up Z (20, H.size) (some (.inl e)))) H1 := by
  have h0 := h.free (hg.2.2 H.size)
  refine ⟨by rwa [kc_Z2] at h0, ?_⟩
  have h1 := h.new (i := (20, H.size)) (ad' := gA g) (e := e) h0 (fun _ _ => rfl) (hg.2.2 _) ha ho u
  rwa [kc_up2] at h1
/-- a field of a thing of no lasting role -/
theorem kr_S.updz {H H1 : Heap} (h : kr_S G (gA g) (kr_cells G g S Z) H) {q c : Nat} {fs fs' : List Value} (hi : Z (20, q) = kr_o c fs) (ha : va_at (kg_D G) kr_cl (gA g (20, q), .inr (c, fs')) H1) (u : kr_upd H H1 (gA g (20, q))) : kr_S G (gA g) (kr_cells G g S (kr_up Z (20, q) (kr_o c fs'))) H1 := h.upd (i := (20, q)) (by rw [kc_Z2]; exact hi) kc_up2 ha u
theorem ct_X17_init (hF : kr_F G l) (hg : kr_gok g) {q i : Nat} (hi : i < sN S 0 0) (hz : Z (20, q) = kr_o 4 [.null, .null, .int 0]) (hl : (sL S 1 i).length ≤ 20) (hln : ∀ b ∈ sL S 1 i, 8 ≤ sN S 12 b ∧ sN S 12 b ≤ 16) : kr_T G l yX17_init (ws_ yX17_init cX17_init 2 (Option.none : Option Jvm.ClassFile.FieldType)) 3 200 [.ref (gA g (20, q)), .ref (gA g (2, i))] (kr_S G (gA g) (kr_cells G g S Z)) 1 20 (fun v H => ∃ q2, (v = none ∧ Z (20, q2) = none) ∧ kr_S G (gA g) (kr_cells G g S (kr_up (kr_up Z (20, q2) (kr_al G (sL S 1 i))) (20, q) (kr_o 4 [.ref (gA g (2, i)), .ref q2, .int 0]))) H) kr_no := by
  refine kr_T.of (by decide +kernel) hF (by simp [Value.category]) (Nat.le_of_ble_eq_true rfl) (fun x hx X => ?_)
  have hn : (nI (sL S 1 i).length).toNatClampNeg = (sL S 1 i).length := nI_clamp (by omega)
  refine kj_aload_n X dX17_init_0 rfl rfl (by first | exact ⟨some _, rfl⟩ | exact ⟨none, rfl⟩ | exact ⟨_, rfl⟩) ?_
  refine kj_objInit X q1116 q95 q96 dX17_init_1 (Nat.le_of_ble_eq_true rfl) (by simp [Value.category, kr_cat]) ?_
  refine kj_aload_n X dX17_init_4 rfl rfl (by first | exact ⟨some _, rfl⟩ | exact ⟨none, rfl⟩ | exact ⟨_, rfl⟩) ?_
  refine kj_aload_n X dX17_init_5 rfl rfl (by first | exact ⟨some _, rfl⟩ | exact ⟨none, rfl⟩ | exact ⟨_, rfl⟩) ?_
  refine kj_putF X kc_X17 0 (by decide) q1119 rfl rfl rfl rfl dX17_init_6 (by first | rfl | exact kr_nar _ _ | exact kr_narb _) (by first | rfl | exact kr_fitr _ _ | exact kr_fitb _) (Nat.le_of_ble_eq_true rfl) (fun H h => h.own (i := (20, q)) (by rw [kc_Z2]; exact hz)) (fun H H1 h a u => h.updz hz a u) ?_
  have hz1 : kr_up Z (20, q) (kr_o 4 [.ref (gA g (2, i)), .null, .int 0]) (20, q) = kr_o 4 [.ref (gA g (2, i)), .null, .int 0] := kr_up_s
  refine kj_P (P' := kr_S G (gA g) (kr_cells G g S (kr_up Z (20, q) (kr_o 4 [.ref (gA g (2, i)), .null, .int 0])))) (fun H h => h) ?_
  refine kj_aload_n X dX17_init_9 rfl rfl (by first | exact ⟨some _, rfl⟩ | exact ⟨none, rfl⟩ | exact ⟨_, rfl⟩) ?_
  refine kj_aload_n X dX17_init_10 rfl rfl (by first | exact ⟨some _, rfl⟩ | exact ⟨none, rfl⟩ | exact ⟨_, rfl⟩) ?_
  refine kj_getN X kc_X4 1 (by decide) q516 rfl dX17_init_11 (fun H h => h.own (kc_2 hi)) rfl ?_
  refine kj_alen X 7 rfl dX17_init_14 (fun H h => h.own (kc_4 hi)) rfl ?_
  refine kj_wide (cs' := 0) (ss' := 20 - (sL S 1 i).length) (by omega) (by omega) ?_
  refine kj_anew (Pn := fun q2 H => kr_up Z (20, q) (kr_o 4 [.ref (gA g (2, i)), .null, .int 0]) (20, q2) = none ∧ kr_S G (gA g) (kr_cells G g S (kr_up (kr_up Z (20, q) (kr_o 4 [.ref (gA g (2, i)), .null, .int 0])) (20, q2) (kr_al7 G (sL S 1 i).length (fun _ => none)))) H) X 7 rfl q1117 q513 dX17_init_15 (nI_pos (by omega)) hn (by omega) (by dsimp only; omega) (by dsimp only; omega) (fun H H1 h ho a u => h.mk2 hg a ho u) (fun q2 => ?_)
  refine kj_and (fun hq2 => ?_)
  have hne : q2 ≠ q := by
    intro e
    rw [e, kr_up_s] at hq2
    cases hq2
  have hq3 : Z (20, q2) = none := by
    rw [kr_up_n (fun z => hne (Prod.mk.inj z).2)] at hq2
    exact hq2
  have swap : ∀ e1 e2 : Option kr_AE, kr_up (kr_up Z (20, q) e1) (20, q2) e2 = kr_up (kr_up Z (20, q2) e2) (20, q) e1 := by
    intro e1 e2
    funext r
    unfold kr_up
    by_cases h1 : r = (20, q2)
    · rw [if_pos h1, if_neg (fun z => hne (Prod.mk.inj (h1.symm.trans z)).2), if_pos h1]
    · rw [if_neg h1, if_neg h1]
  rw [swap]
  have hz2 : ∀ e2 : Option kr_AE, kr_up (kr_up Z (20, q2) e2) (20, q) (kr_o 4 [.ref (gA g (2, i)), .null, .int 0]) (20, q) = kr_o 4 [.ref (gA g (2, i)), .null, .int 0] := fun _ => kr_up_s
  refine kj_putF X kc_X17 1 (by decide) q1121 rfl rfl rfl rfl dX17_init_18 (by first | rfl | exact kr_nar _ _ | exact kr_narb _) (by first | rfl | exact kr_fitr _ _ | exact kr_fitb _) (Nat.le_of_ble_eq_true rfl) (fun H h => h.own (i := (20, q)) (by rw [kc_Z2]; exact hz2 _)) (fun H H1 h a u => by have h9 := h.updz (fs' := [.ref (gA g (2, i)), .ref q2, .int 0]) (hz2 _) a u; rw [kr_up_up] at h9; exact h9) ?_
  refine kj_P (P' := kr_S G (gA g) (kr_cells G g S (kr_up (kr_up Z (20, q2) (kr_al7 G (sL S 1 i).length (fun _ => none))) (20, q) (kr_o 4 [.ref (gA g (2, i)), .ref q2, .int 0])))) (fun H h => h) ?_
  have hz3 : kr_up (kr_up Z (20, q2) (kr_al7 G (sL S 1 i).length (fun _ => none))) (20, q) (kr_o 4 [.ref (gA g (2, i)), .ref q2, .int 0]) (20, q) = kr_o 4 [.ref (gA g (2, i)), .ref q2, .int 0] := kr_up_s
  have hz4 : kr_cells G g S (kr_up (kr_up Z (20, q2) (kr_al7 G (sL S 1 i).length (fun _ => none))) (20, q) (kr_o 4 [.ref (gA g (2, i)), .ref q2, .int 0])) (20, q2) = kr_al7 G (sL S 1 i).length (fun _ => none) := by rw [kc_Z2, kr_up_n (fun z => hne (Prod.mk.inj z).2), kr_up_s]
  have o4 : ∀ H, kr_S G (gA g) (kr_cells G g S (kr_up (kr_up Z (20, q2) (kr_al7 G (sL S 1 i).length (fun _ => none))) (20, q) (kr_o 4 [.ref (gA g (2, i)), .ref q2, .int 0]))) H → kr_own G q2 (.inl (kg_A G 7, (sL S 1 i).length, .inr (.inr (.inr (.inr (fun _ => none)))))) H := fun H h => by
    have := h.own hz4
    rwa [hg.2.2 q2] at this
  refine kj_aload_n X dX17_init_21 rfl rfl (by first | exact ⟨some _, rfl⟩ | exact ⟨none, rfl⟩ | exact ⟨_, rfl⟩) ?_
  refine kj_getN X kc_X4 1 (by decide) q516 rfl dX17_init_22 (fun H h => h.own (kc_2 hi)) rfl ?_
  refine kj_iconst (v := 0) X dX17_init_25 (by decide) ?_
  refine kj_aload_n X dX17_init_26 rfl rfl (by first | exact ⟨some _, rfl⟩ | exact ⟨none, rfl⟩ | exact ⟨_, rfl⟩) ?_
  refine kj_get X kc_X17 1 (by decide) q1121 (Or.inl rfl) dX17_init_27 (fun H h => h.own (i := (20, q)) (by rw [kc_Z2]; exact hz3)) rfl ?_
  refine kj_iconst (v := 0) X dX17_init_30 (by decide) ?_
  refine kj_aload_n X dX17_init_31 rfl rfl (by first | exact ⟨some _, rfl⟩ | exact ⟨none, rfl⟩ | exact ⟨_, rfl⟩) ?_
  refine kj_get X kc_X17 1 (by decide) q1121 (Or.inl rfl) dX17_init_32 (fun H h => h.own (i := (20, q)) (by rw [kc_Z2]; exact hz3)) rfl ?_
  refine kj_alen X 7 rfl dX17_init_35 (fun H h => o4 H h) rfl ?_
  refine kj_copy (P' := kr_S G (gA g) (kr_cells G g S (kr_up (kr_up Z (20, q2) (kr_al G (sL S 1 i))) (20, q) (kr_o 4 [.ref (gA g (2, i)), .ref q2, .int 0])))) X 7 7 rfl rfl q1118 dX17_init_36 (fun H h => h.own (kc_4 hi)) (fun H h => o4 H h) (by decide) (by decide) (nI_pos (by omega)) (by show 0 + (nI (sL S 1 i).length).toNatClampNeg ≤ _; omega) (by show 0 + (nI (sL S 1 i).length).toNatClampNeg ≤ _; omega) (fun H h k hk b hb => ?_) (Nat.le_of_ble_eq_true rfl) (by simp; decide) (fun H H1 h a u => ?_) ?_
  · have hm : b ∈ sL S 1 i := List.mem_of_getElem? hb
    obtain ⟨c1, c2⟩ := hln b hm
    obtain ⟨C, T, N, hC, hcast⟩ := kr_castL _ c1 c2
    refine ⟨_, C, T, N, [.int (sI S 6 b)], hC, ?_, Or.inr hcast⟩
    have := h.at (i := (17, b)) (kc_17 (by omega))
    rwa [(hg.1 b).2] at this
  · have h9 := kr_S.upa (i := (20, q2)) (σ' := kr_cells G g S (kr_up (kr_up (kr_up Z (20, q2) (kr_al7 G (sL S 1 i).length (fun _ => none))) (20, q) (kr_o 4 [.ref (gA g (2, i)), .ref q2, .int 0])) (20, q2) (kr_al G (sL S 1 i)))) h hz4 (w' := (kg_A G 7, (sL S 1 i).length, .inr (.inr (.inr (.inr (fun j => (sL S 1 i)[j]?)))))) kc_up2 (by
      rw [hg.2.2 q2]
      have e : va_cpy (fun j => (sL S 1 i)[j]?) (fun _ => (none : Option Nat)) 0 0 (nI (sL S 1 i).length).toNatClampNeg = fun j => (sL S 1 i)[j]? := by
        funext j
        unfold va_cpy
        rw [hn]
        by_cases hj : j < (sL S 1 i).length
        · rw [if_pos (by omega)]
          congr 1
          omega
        · rw [if_neg (by omega)]
          exact (List.getElem?_eq_none (by omega)).symm
      rw [← e]
      exact a) (by rw [hg.2.2 q2]; exact u)
    have e2 : kr_up (kr_up (kr_up Z (20, q2) (kr_al7 G (sL S 1 i).length (fun _ => none))) (20, q) (kr_o 4 [.ref (gA g (2, i)), .ref q2, .int 0])) (20, q2) (kr_al G (sL S 1 i)) = kr_up (kr_up Z (20, q2) (kr_al G (sL S 1 i))) (20, q) (kr_o 4 [.ref (gA g (2, i)), .ref q2, .int 0]) := by
      funext r
      unfold kr_up
      by_cases h1 : r = (20, q2)
      · rw [if_pos h1, if_neg (fun z => hne (Prod.mk.inj (h1.symm.trans z)).2), if_pos h1]
      · rw [if_neg h1]
        split
        · rfl
        · rfl
    rw [e2] at h9
    exact h9
  exact kj_vret X dX17_init_39 (by omega) (by omega) (fun H h => ⟨q2, ⟨rfl, hq3⟩, h⟩)
end
