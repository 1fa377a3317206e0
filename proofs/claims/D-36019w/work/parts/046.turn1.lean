/-! TURN 1: what a line leaves alone; the pile is popped -/
set_option maxRecDepth 100000
theorem oF_N (S : kr_St) (d a b : Nat) (h8 : a ≠ 8) (h9 : a ≠ 9) : sN (oF S d) a b = sN S a b := by
  unfold oF
  split
  · rw [sN_uN, if_neg (fun z => h9 z.1)]
  · rw [sN_uN, if_neg (fun z => h8 z.1), sN_uN, if_neg (fun z => h9 z.1), sN_uL]
theorem oF_8 (S : kr_St) (d p : Nat) (h : sN S 8 p = 0) : sN (oF S d) 8 p = 0 := by
  unfold oF
  split
  · rw [sN_uN, if_neg (fun z => absurd z.1 (by decide))]
    exact h
  · rw [sN_uN]
    split
    · rfl
    · rw [sN_uN, if_neg (fun z => absurd z.1 (by decide)), sN_uL]
      exact h
theorem oShow_N (S : kr_St) (k s a b : Nat) (ha : a < 100) : sN (oShow S k s) a b = sN S a b := by
  unfold oShow
  split
  · rfl
  · rw [oSees_N a b ha]
    rfl
theorem oPush_N (S : kr_St) (p i a b : Nat) (h5 : a ≠ 5) (h11 : a ≠ 11) : sN (oPush S p i) a b = sN S a b := by
  unfold oPush
  split
  · show sN (uL (uI (uN (uN S 5 p (sN S 5 p + 1)) 11 _ i) 5 _ 0) 4 _ _) a b = _
    rw [sN_uL, sN_uI, sN_uN, if_neg (fun z => h11 z.1), sN_uN, if_neg (fun z => h5 z.1)]
  · rfl
theorem oAct_N (S : kr_St) (p k q a b : Nat) (h5 : a ≠ 5) (h8 : a ≠ 8) (h9 : a ≠ 9) (h11 : a ≠ 11) (ha : a < 100) : sN (oAct S p k q).1 a b = sN S a b := by
  unfold oAct
  split
  · exact oShow_N S k _ a b ha
  split
  · rfl
  split
  · exact oTake_15 S p _ a b ⟨h9, h8⟩
  split
  · dsimp only
    unfold oFree
    split
    · exact oF_N S _ a b h8 h9
    · rfl
  split
  · rfl
  split
  · dsimp only
    unfold oAlone
    split <;> rfl
  split
  · dsimp only
    split <;> rfl
  split
  · rfl
  · exact oPush_N S p _ a b h5 h11
theorem oAct_8 (S : kr_St) (p k q : Nat) (h : sN S 8 p = 0) (hb : (oAct S p k q).2 = true) : sN (oAct S p k q).1 8 p = 0 := by
  unfold oAct at hb ⊢
  split
  · rw [oShow_N S k _ 8 p (by decide)]
    exact h
  rename_i e8
  rw [if_neg e8] at hb
  split
  · exact h
  rename_i e9
  rw [if_neg e9] at hb
  split
  · rename_i e10
    rw [if_pos e10] at hb
    exact of_decide_eq_true hb
  split
  · dsimp only
    unfold oFree
    split
    · exact oF_8 S _ p h
    · exact h
  split
  · exact h
  split
  · dsimp only
    unfold oAlone
    split <;> exact h
  split
  · dsimp only
    split <;> exact h
  split
  · exact h
  · rw [oPush_N S p _ 8 p (by decide) (by decide)]
    exact h
section
variable {G : kr_G} {l : Launch} {g g' : kr_Gh} {S S' : kr_St} {Z Z' : kr_Ro → Option kr_AE}
theorem kr_erase_last {α : Type} (f : Nat → α) (n : Nat) (hn : 0 < n) : ((List.range n).map f).eraseIdx (n - 1) = (List.range (n - 1)).map f := by
  obtain ⟨m, rfl⟩ : ∃ m, n = m + 1 := ⟨n - 1, by omega⟩
  rw [Nat.add_sub_cancel, List.range_succ, List.map_append, List.eraseIdx_append_of_length_le (by rw [List.length_map, List.length_range]; exact Nat.le_refl _), List.length_map, List.length_range, Nat.sub_self]
  simp
theorem kr_S.popf {H : Heap} {p : Nat} {mc : Int32} (hp : sN S 15 p = 1) (h1 : 1 < sN S 5 p) (hI : kr_I S) (hg : kr_gok g) (hZ : ∀ r z, Z r ≠ some (.inr z)) (h : kr_S G (gA g) (kr_up (kr_cells G g S Z) (8, p) (some (.inr (((List.range (sN S 5 p)).map (fun d => gA g (9, 4 * p + d))).eraseIdx (sN S 5 p - 1), mc, 10)))) H) :
    kr_S G (gA (gL g (8, p) mc 10)) (kr_cells G (gL g (8, p) mc 10) (uN S 5 p (sN S 5 p - 1)) Z) H := by
  have e5 : ∀ b, sN (uN S 5 p (sN S 5 p - 1)) 5 b ≤ sN S 5 b := fun b => by
    rw [sN_uN]
    by_cases hb : b = p
    · rw [if_pos ⟨rfl, hb⟩, hb]
      omega
    · rw [if_neg (fun z => hb z.2)]
      omega
  have hI2 : kr_I (uN S 5 p (sN S 5 p - 1)) := by
    obtain ⟨i1, i2, i3, i4⟩ := hI
    exact ⟨i1, i2, i3, fun x hx => Nat.le_trans (e5 x) (i4 x hx)⟩
  rw [kr_erase_last _ _ (by omega)] at h
  refine h.sub (fun r e hr => ?_) (hI2.elem (g := gL g (8, p) mc 10) hg.1 hZ)
  by_cases r8 : r = (8, p)
  · subst r8
    rw [kr_up_s]
    rw [kc_8 (S := uN S 5 p (sN S 5 p - 1)) hp, sN_uN, if_pos ⟨rfl, rfl⟩, gM_gL, if_pos rfl] at hr
    exact hr
  rw [kr_up_n r8]
  obtain ⟨a, b⟩ := r
  have eM : gM (gL g (8, p) mc 10) (a, b) = gM g (a, b) ∧ gC (gL g (8, p) mc 10) (a, b) = gC g (a, b) := by
    rw [gM_gL, gC_gL, if_neg r8, if_neg r8]
    exact ⟨rfl, rfl⟩
  by_cases h18 : 18 ≤ a
  · rw [kc_Z (r := (a, b)) h18] at hr ⊢
    exact hr
  rcases (show a = 0 ∨ a = 1 ∨ a = 2 ∨ a = 3 ∨ a = 4 ∨ a = 5 ∨ a = 6 ∨ a = 7 ∨ a = 8 ∨ a = 9 ∨ a = 10 ∨ a = 11 ∨ a = 12 ∨ a = 13 ∨ a = 14 ∨ a = 15 ∨ a = 16 ∨ a = 17 by omega) with rfl | rfl | rfl | rfl | rfl | rfl | rfl | rfl | rfl | rfl | rfl | rfl | rfl | rfl | rfl | rfl | rfl | rfl
  case inr.inr.inr.inr.inr.inr.inr.inr.inl =>
    have hb : b ≠ p := fun z => r8 (by rw [z])
    have e : kr_cells G (gL g (8, p) mc 10) (uN S 5 p (sN S 5 p - 1)) Z (8, b) = kr_cells G g S Z (8, b) := by
      show (if sN S 15 b = 1 then some (.inr ((List.range (sN (uN S 5 p (sN S 5 p - 1)) 5 b)).map (fun d => gA g (9, 4 * b + d)), gM (gL g (8, p) mc 10) (8, b), 10)) else none : Option kr_AE) = _
      have e5b : sN (uN S 5 p (sN S 5 p - 1)) 5 b = sN S 5 b := by rw [sN_uN, if_neg (fun z => hb z.2)]
      rw [e5b, eM.1]
      rfl
    rw [← e]
    exact hr
  case inr.inr.inr.inr.inr.inr.inr.inr.inr.inl =>
    replace hr : (if sN S 15 (b / 4) = 1 ∧ b % 4 < sN (uN S 5 p (sN S 5 p - 1)) 5 (b / 4) then kr_o 4 [.ref (gA g (2, sN S 11 b)), .ref (gA g (10, b)), .int (sI S 5 b)] else none) = some e := hr
    show (if sN S 15 (b / 4) = 1 ∧ b % 4 < sN S 5 (b / 4) then kr_o 4 [.ref (gA g (2, sN S 11 b)), .ref (gA g (10, b)), .int (sI S 5 b)] else none) = some e
    split at hr
    · rename_i hc
      rw [if_pos ⟨hc.1, Nat.lt_of_lt_of_le hc.2 (e5 _)⟩]
      exact hr
    · cases hr
  case inr.inr.inr.inr.inr.inr.inr.inr.inr.inr.inl =>
    replace hr : (if sN S 15 (b / 4) = 1 ∧ b % 4 < sN (uN S 5 p (sN S 5 p - 1)) 5 (b / 4) then kr_al G (sL S 4 b) else none) = some e := hr
    show (if sN S 15 (b / 4) = 1 ∧ b % 4 < sN S 5 (b / 4) then kr_al G (sL S 4 b) else none) = some e
    split at hr
    · rename_i hc
      rw [if_pos ⟨hc.1, Nat.lt_of_lt_of_le hc.2 (e5 _)⟩]
      exact hr
    · cases hr
  all_goals exact hr
end
