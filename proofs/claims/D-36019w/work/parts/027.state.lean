/-! THE STATE of a KioskReel, and its cells by roles.
whole numbers (sI): 0 0 shown; 1 p count; 2 p wait; 3 k frozen; 4 k slide; 5 f next (f = 4 * player + depth); 6 q a line's number; 2 v + 100, s saw; 2 v + 101, s asks
numbers (sN): 0 0 lists; 1 0 kiosks; 2 0 visitors; 3 k own; 4 p at (0: nowhere, k + 1); 5 p depth; 6 k isFrozen; 7 k isOut; 8 p isQueued; 9 d holder; 10 v at; 11 f a frame's list; 12 q a line's class; 14 0 devices; 15 p is there; v + 100, s asked
lists (sL): 0 i lines; 1 i now; 2 k players; 3 d queue; 4 f a frame's lines -/
set_option maxRecDepth 100000
abbrev kr_St : Type := (Nat → Nat → Int32) × (Nat → Nat → Nat) × (Nat → Nat → List Nat) × Int64
def sI (S : kr_St) (f k : Nat) : Int32 := S.1 f k
def sN (S : kr_St) (f k : Nat) : Nat := S.2.1 f k
def sL (S : kr_St) (f k : Nat) : List Nat := S.2.2.1 f k
def sD (S : kr_St) : Int64 := S.2.2.2
def uI (S : kr_St) (f k : Nat) (v : Int32) : kr_St := (fun a b => if a = f ∧ b = k then v else S.1 a b, S.2)
def uN (S : kr_St) (f k : Nat) (v : Nat) : kr_St := (S.1, fun a b => if a = f ∧ b = k then v else S.2.1 a b, S.2.2)
def uL (S : kr_St) (f k : Nat) (v : List Nat) : kr_St := (S.1, S.2.1, fun a b => if a = f ∧ b = k then v else S.2.2.1 a b, S.2.2.2)
def uD (S : kr_St) (v : Int64) : kr_St := (S.1, S.2.1, S.2.2.1, v)
section
variable {S : kr_St} {f k a b : Nat}
theorem sI_uI {v : Int32} : sI (uI S f k v) a b = if a = f ∧ b = k then v else sI S a b := rfl
theorem sN_uI {v : Int32} : sN (uI S f k v) a b = sN S a b := rfl
theorem sL_uI {v : Int32} : sL (uI S f k v) a b = sL S a b := rfl
theorem sD_uI {v : Int32} : sD (uI S f k v) = sD S := rfl
theorem sI_uN {v : Nat} : sI (uN S f k v) a b = sI S a b := rfl
theorem sN_uN {v : Nat} : sN (uN S f k v) a b = if a = f ∧ b = k then v else sN S a b := rfl
theorem sL_uN {v : Nat} : sL (uN S f k v) a b = sL S a b := rfl
theorem sD_uN {v : Nat} : sD (uN S f k v) = sD S := rfl
theorem sI_uL {v : List Nat} : sI (uL S f k v) a b = sI S a b := rfl
theorem sN_uL {v : List Nat} : sN (uL S f k v) a b = sN S a b := rfl
theorem sL_uL {v : List Nat} : sL (uL S f k v) a b = if a = f ∧ b = k then v else sL S a b := rfl
theorem sD_uL {v : List Nat} : sD (uL S f k v) = sD S := rfl
theorem sI_uD {v : Int64} : sI (uD S v) a b = sI S a b := rfl
theorem sN_uD {v : Int64} : sN (uD S v) a b = sN S a b := rfl
theorem sL_uD {v : Int64} : sL (uD S v) a b = sL S a b := rfl
theorem sD_uD {v : Int64} : sD (uD S v) = v := rfl
end
/-- addresses; how often a list was changed; how many places its row has -/
abbrev kr_Gh : Type := (kr_Ro → Nat) × (kr_Ro → Int32) × (kr_Ro → Nat)
abbrev gA (g : kr_Gh) : kr_Ro → Nat := g.1
abbrev gM (g : kr_Gh) : kr_Ro → Int32 := g.2.1
abbrev gC (g : kr_Gh) : kr_Ro → Nat := g.2.2
abbrev kr_op (f : Nat → Nat) (n : Nat) : Option Nat := match n with
  | 0 => none
  | j + 1 => some (f j)
abbrev kr_o (c : Nat) (fs : List Value) : Option kr_AE := some (.inl (.inl (.inr (c, fs))))
abbrev kr_ai (G : kr_G) (ti n : Nat) (f : Nat → Int32) : Option kr_AE := some (.inl (.inl (.inl (kg_A G ti, n, .inl f))))
abbrev kr_al (G : kr_G) (xs : List Nat) : Option kr_AE := some (.inl (.inl (.inl (kg_A G 7, xs.length, .inr (.inr (.inr (.inr (fun j => xs[j]?))))))))
abbrev kr_li (g : kr_Gh) (r : kr_Ro) (xs : List Nat) : Option kr_AE := some (.inr (xs, gM g r, gC g r))
/-- is there a kiosk's own player -/
abbrev kr_ow (g : kr_Gh) (n k : Nat) : Option Nat := if n = 1 then some (gA g (7, k)) else none
def kr_cells (G : kr_G) (g : kr_Gh) (S : kr_St) (Z : kr_Ro → Option kr_AE) (r : kr_Ro) : Option kr_AE := match r.1 with
  | 0 => if r.2 = 0 then kr_o 0 [.ref (gA g (1, 0)), .ref (gA g (1, 1)), .ref (gA g (1, 2)), .ref (gA g (1, 3)), .int (sI S 0 0), .long (sD S)] else none
  | 1 => if r.2 = 0 then kr_li g (1, 0) ((List.range (sN S 0 0)).map fun i => gA g (2, i)) else if r.2 = 1 then kr_li g (1, 1) ((List.range (sN S 1 0)).map fun i => gA g (5, i)) else if r.2 = 2 then kr_li g (1, 2) ((List.range (sN S 14 0)).map fun i => gA g (11, i)) else if r.2 = 3 then kr_li g (1, 3) ((List.range (sN S 2 0)).map fun i => gA g (13, i)) else none
  | 2 => if r.2 < sN S 0 0 then kr_o 3 [.ref (gA g (3, r.2)), .ref (gA g (4, r.2))] else none
  | 3 => if r.2 < sN S 0 0 then kr_li g (3, r.2) (sL S 0 r.2) else none
  | 4 => if r.2 < sN S 0 0 then kr_al G (sL S 1 r.2) else none
  | 5 => if r.2 < sN S 1 0 then kr_o 6 [.int (nI r.2), .ref (gA g (6, r.2)), va_rf (kr_ow g (sN S 3 r.2) r.2), .int (nI (sN S 6 r.2)), .int (nI (sN S 7 r.2)), .int (sI S 3 r.2), .int (sI S 4 r.2)] else none
  | 6 => if r.2 < sN S 1 0 then kr_li g (6, r.2) ((sL S 2 r.2).map fun i => gA g (7, i)) else none
  | 7 => if sN S 15 r.2 = 1 then kr_o 5 [.int (nI r.2), .ref (gA g (8, r.2)), va_rf (kr_op (fun i => gA g (5, i)) (sN S 4 r.2)), .int (sI S 1 r.2), .int (sI S 2 r.2), .int (nI (sN S 8 r.2))] else none
  | 8 => if sN S 15 r.2 = 1 then some (.inr ((List.range (sN S 5 r.2)).map (fun d => gA g (9, 4 * r.2 + d)), gM g (8, r.2), 10)) else none
  | 9 => if sN S 15 (r.2 / 4) = 1 ∧ r.2 % 4 < sN S 5 (r.2 / 4) then kr_o 4 [.ref (gA g (2, sN S 11 r.2)), .ref (gA g (10, r.2)), .int (sI S 5 r.2)] else none
  | 10 => if sN S 15 (r.2 / 4) = 1 ∧ r.2 % 4 < sN S 5 (r.2 / 4) then kr_al G (sL S 4 r.2) else none
  | 11 => if r.2 < sN S 14 0 then kr_o 2 [.ref (gA g (12, r.2)), va_rf (kr_op (fun i => gA g (7, i)) (sN S 9 r.2))] else none
  | 12 => if r.2 < sN S 14 0 then kr_li g (12, r.2) ((sL S 3 r.2).map fun i => gA g (7, i)) else none
  | 13 => if r.2 < sN S 2 0 then kr_o 7 [.ref (gA g (14, r.2)), .ref (gA g (15, r.2)), .ref (gA g (16, r.2)), va_rf (kr_op (fun i => gA g (5, i)) (sN S 10 r.2))] else none
  | 14 => if r.2 < sN S 2 0 then kr_ai G 0 100 (fun s => sI S (2 * r.2 + 100) s) else none
  | 15 => if r.2 < sN S 2 0 then kr_ai G 0 100 (fun s => sI S (2 * r.2 + 101) s) else none
  | 16 => if r.2 < sN S 2 0 then kr_ai G 1 100 (fun s => nI (sN S (r.2 + 100) s)) else none
  | 17 => if sN S 12 r.2 = 0 then none else kr_o (sN S 12 r.2) [.int (sI S 6 r.2)]
  | _ => Z r
section
variable {G : kr_G} {g g' : kr_Gh} {S S' : kr_St} {Z : kr_Ro → Option kr_AE} {k : Nat}
theorem kc_kio  : kr_cells G g S Z (0, 0) = kr_o 0 [.ref (gA g (1, 0)), .ref (gA g (1, 1)), .ref (gA g (1, 2)), .ref (gA g (1, 3)), .int (sI S 0 0), .long (sD S)] := rfl
theorem kc_l0  : kr_cells G g S Z (1, 0) = kr_li g (1, 0) ((List.range (sN S 0 0)).map fun i => gA g (2, i)) := rfl
theorem kc_l1  : kr_cells G g S Z (1, 1) = kr_li g (1, 1) ((List.range (sN S 1 0)).map fun i => gA g (5, i)) := rfl
theorem kc_l2  : kr_cells G g S Z (1, 2) = kr_li g (1, 2) ((List.range (sN S 14 0)).map fun i => gA g (11, i)) := rfl
theorem kc_l3  : kr_cells G g S Z (1, 3) = kr_li g (1, 3) ((List.range (sN S 2 0)).map fun i => gA g (13, i)) := rfl
theorem kc_2 (h : k < sN S 0 0) : kr_cells G g S Z (2, k) = kr_o 3 [.ref (gA g (3, k)), .ref (gA g (4, k))] := by show (if _ then _ else _) = _; rw [if_pos h]
theorem kc_3 (h : k < sN S 0 0) : kr_cells G g S Z (3, k) = kr_li g (3, k) (sL S 0 k) := by show (if _ then _ else _) = _; rw [if_pos h]
theorem kc_4 (h : k < sN S 0 0) : kr_cells G g S Z (4, k) = kr_al G (sL S 1 k) := by show (if _ then _ else _) = _; rw [if_pos h]
theorem kc_5 (h : k < sN S 1 0) : kr_cells G g S Z (5, k) = kr_o 6 [.int (nI k), .ref (gA g (6, k)), va_rf (kr_ow g (sN S 3 k) k), .int (nI (sN S 6 k)), .int (nI (sN S 7 k)), .int (sI S 3 k), .int (sI S 4 k)] := by show (if _ then _ else _) = _; rw [if_pos h]
theorem kc_6 (h : k < sN S 1 0) : kr_cells G g S Z (6, k) = kr_li g (6, k) ((sL S 2 k).map fun i => gA g (7, i)) := by show (if _ then _ else _) = _; rw [if_pos h]
theorem kc_7 (h : sN S 15 k = 1) : kr_cells G g S Z (7, k) = kr_o 5 [.int (nI k), .ref (gA g (8, k)), va_rf (kr_op (fun i => gA g (5, i)) (sN S 4 k)), .int (sI S 1 k), .int (sI S 2 k), .int (nI (sN S 8 k))] := by show (if _ then _ else _) = _; rw [if_pos h]
theorem kc_8 (h : sN S 15 k = 1) : kr_cells G g S Z (8, k) = some (.inr ((List.range (sN S 5 k)).map (fun d => gA g (9, 4 * k + d)), gM g (8, k), 10)) := by show (if _ then _ else _) = _; rw [if_pos h]
theorem kc_11 (h : k < sN S 14 0) : kr_cells G g S Z (11, k) = kr_o 2 [.ref (gA g (12, k)), va_rf (kr_op (fun i => gA g (7, i)) (sN S 9 k))] := by show (if _ then _ else _) = _; rw [if_pos h]
theorem kc_12 (h : k < sN S 14 0) : kr_cells G g S Z (12, k) = kr_li g (12, k) ((sL S 3 k).map fun i => gA g (7, i)) := by show (if _ then _ else _) = _; rw [if_pos h]
theorem kc_13 (h : k < sN S 2 0) : kr_cells G g S Z (13, k) = kr_o 7 [.ref (gA g (14, k)), .ref (gA g (15, k)), .ref (gA g (16, k)), va_rf (kr_op (fun i => gA g (5, i)) (sN S 10 k))] := by show (if _ then _ else _) = _; rw [if_pos h]
theorem kc_14 (h : k < sN S 2 0) : kr_cells G g S Z (14, k) = kr_ai G 0 100 (fun s => sI S (2 * k + 100) s) := by show (if _ then _ else _) = _; rw [if_pos h]
theorem kc_15 (h : k < sN S 2 0) : kr_cells G g S Z (15, k) = kr_ai G 0 100 (fun s => sI S (2 * k + 101) s) := by show (if _ then _ else _) = _; rw [if_pos h]
theorem kc_16 (h : k < sN S 2 0) : kr_cells G g S Z (16, k) = kr_ai G 1 100 (fun s => nI (sN S (k + 100) s)) := by show (if _ then _ else _) = _; rw [if_pos h]
theorem kc_9 {d : Nat} (h : sN S 15 k = 1) (hd : d < 4) (h2 : d < sN S 5 k) : kr_cells G g S Z (9, 4 * k + d) = kr_o 4 [.ref (gA g (2, sN S 11 (4 * k + d))), .ref (gA g (10, 4 * k + d)), .int (sI S 5 (4 * k + d))] := by
  show (if _ then _ else _) = _
  have e1 : (4 * k + d) / 4 = k := by omega
  have e2 : (4 * k + d) % 4 = d := by omega
  rw [e1, e2, if_pos ⟨h, h2⟩]
theorem kc_10 {d : Nat} (h : sN S 15 k = 1) (hd : d < 4) (h2 : d < sN S 5 k) : kr_cells G g S Z (10, 4 * k + d) = kr_al G (sL S 4 (4 * k + d)) := by
  show (if _ then _ else _) = _
  have e1 : (4 * k + d) / 4 = k := by omega
  have e2 : (4 * k + d) % 4 = d := by omega
  rw [e1, e2, if_pos ⟨h, h2⟩]
theorem kc_17 (h : sN S 12 k ≠ 0) : kr_cells G g S Z (17, k) = kr_o (sN S 12 k) [.int (sI S 6 k)] := by
  show (if _ then _ else _) = _
  rw [if_neg h]
theorem kc_Z {r : kr_Ro} (h : 18 ≤ r.1) : kr_cells G g S Z r = Z r := by
  obtain ⟨a, b⟩ := r
  unfold kr_cells
  dsimp only at h ⊢
  split <;> first | rfl | omega
/-- passing things -/
theorem kc_up {r : kr_Ro} {e : Option kr_AE} (h : 18 ≤ r.1) : kr_up (kr_cells G g S Z) r e = kr_cells G g S (kr_up Z r e) := by
  funext q
  by_cases hq : q = r
  · subst hq
    rw [kr_up_s, kc_Z h, kr_up_s]
  · rw [kr_up_n hq]
    by_cases h18 : 18 ≤ q.1
    · rw [kc_Z h18, kc_Z h18, kr_up_n hq]
    · obtain ⟨a, b⟩ := q
      dsimp only at h18
      rcases (show a = 0 ∨ a = 1 ∨ a = 2 ∨ a = 3 ∨ a = 4 ∨ a = 5 ∨ a = 6 ∨ a = 7 ∨ a = 8 ∨ a = 9 ∨ a = 10 ∨ a = 11 ∨ a = 12 ∨ a = 13 ∨ a = 14 ∨ a = 15 ∨ a = 16 ∨ a = 17 by omega) with rfl | rfl | rfl | rfl | rfl | rfl | rfl | rfl | rfl | rfl | rfl | rfl | rfl | rfl | rfl | rfl | rfl | rfl <;> rfl
/-- one role changes -/
theorem kc_one {r0 : kr_Ro} {e : Option kr_AE} (h0 : kr_cells G g' S' Z r0 = e) (h : ∀ r, r ≠ r0 → kr_cells G g' S' Z r = kr_cells G g S Z r) : kr_up (kr_cells G g S Z) r0 e = kr_cells G g' S' Z := by
  funext q
  by_cases hq : q = r0
  · subst hq
    rw [kr_up_s, h0]
  · rw [kr_up_n hq, h q hq]
theorem ku_shown  {v : Int32} : kr_up (kr_cells G g S Z) (0, 0) (kr_o 0 [.ref (gA g (1, 0)), .ref (gA g (1, 1)), .ref (gA g (1, 2)), .ref (gA g (1, 3)), .int v, .long (sD S)]) = kr_cells G g (uI S 0 0 v) Z := by
  refine kc_one ?_ ?_
  · simp [kr_cells, sI_uI, sI_uN, sI_uL, sN_uI, sN_uN, sN_uL, sL_uI, sL_uN, sL_uL, sD_uI, sD_uN, sD_uL, sI_uD, sN_uD, sL_uD, sD_uD, *]
  · rintro ⟨a, b⟩ hab
    unfold kr_cells
    dsimp only
    split <;> first | rfl | (simp_all [sI_uI, sI_uN, sI_uL, sN_uI, sN_uN, sN_uL, sL_uI, sL_uN, sL_uL, sD_uI, sD_uN, sD_uL, sI_uD, sN_uD, sL_uD, sD_uD]; done) | (simp_all [sI_uI, sI_uN, sI_uL, sN_uI, sN_uN, sN_uL, sL_uI, sL_uN, sL_uL, sD_uI, sD_uN, sD_uL, sI_uD, sN_uD, sL_uD, sD_uD]; rfl)
theorem ku_done  {v : Int64} : kr_up (kr_cells G g S Z) (0, 0) (kr_o 0 [.ref (gA g (1, 0)), .ref (gA g (1, 1)), .ref (gA g (1, 2)), .ref (gA g (1, 3)), .int (sI S 0 0), .long v]) = kr_cells G g (uD S v) Z := by
  refine kc_one ?_ ?_
  · simp [kr_cells, sI_uI, sI_uN, sI_uL, sN_uI, sN_uN, sN_uL, sL_uI, sL_uN, sL_uL, sD_uI, sD_uN, sD_uL, sI_uD, sN_uD, sL_uD, sD_uD, *]
  · rintro ⟨a, b⟩ hab
    unfold kr_cells
    dsimp only
    split <;> first | rfl | (simp_all [sI_uI, sI_uN, sI_uL, sN_uI, sN_uN, sN_uL, sL_uI, sL_uN, sL_uL, sD_uI, sD_uN, sD_uL, sI_uD, sN_uD, sL_uD, sD_uD]; done) | (simp_all [sI_uI, sI_uN, sI_uL, sN_uI, sN_uN, sN_uL, sL_uI, sL_uN, sL_uL, sD_uI, sD_uN, sD_uL, sI_uD, sN_uD, sL_uD, sD_uD]; rfl)
theorem ku_own (h : k < sN S 1 0) {v : Nat} : kr_up (kr_cells G g S Z) (5, k) (kr_o 6 [.int (nI k), .ref (gA g (6, k)), va_rf (kr_ow g v k), .int (nI (sN S 6 k)), .int (nI (sN S 7 k)), .int (sI S 3 k), .int (sI S 4 k)]) = kr_cells G g (uN S 3 k v) Z := by
  refine kc_one ?_ ?_
  · simp [kr_cells, sI_uI, sI_uN, sI_uL, sN_uI, sN_uN, sN_uL, sL_uI, sL_uN, sL_uL, sD_uI, sD_uN, sD_uL, sI_uD, sN_uD, sL_uD, sD_uD, *]
  · rintro ⟨a, b⟩ hab
    unfold kr_cells
    dsimp only
    split <;> first | rfl | (simp_all [sI_uI, sI_uN, sI_uL, sN_uI, sN_uN, sN_uL, sL_uI, sL_uN, sL_uL, sD_uI, sD_uN, sD_uL, sI_uD, sN_uD, sL_uD, sD_uD]; done) | (simp_all [sI_uI, sI_uN, sI_uL, sN_uI, sN_uN, sN_uL, sL_uI, sL_uN, sL_uL, sD_uI, sD_uN, sD_uL, sI_uD, sN_uD, sL_uD, sD_uD]; rfl)
theorem ku_fz (h : k < sN S 1 0) {v : Nat} : kr_up (kr_cells G g S Z) (5, k) (kr_o 6 [.int (nI k), .ref (gA g (6, k)), va_rf (kr_ow g (sN S 3 k) k), .int (nI (v)), .int (nI (sN S 7 k)), .int (sI S 3 k), .int (sI S 4 k)]) = kr_cells G g (uN S 6 k v) Z := by
  refine kc_one ?_ ?_
  · simp [kr_cells, sI_uI, sI_uN, sI_uL, sN_uI, sN_uN, sN_uL, sL_uI, sL_uN, sL_uL, sD_uI, sD_uN, sD_uL, sI_uD, sN_uD, sL_uD, sD_uD, *]
  · rintro ⟨a, b⟩ hab
    unfold kr_cells
    dsimp only
    split <;> first | rfl | (simp_all [sI_uI, sI_uN, sI_uL, sN_uI, sN_uN, sN_uL, sL_uI, sL_uN, sL_uL, sD_uI, sD_uN, sD_uL, sI_uD, sN_uD, sL_uD, sD_uD]; done) | (simp_all [sI_uI, sI_uN, sI_uL, sN_uI, sN_uN, sN_uL, sL_uI, sL_uN, sL_uL, sD_uI, sD_uN, sD_uL, sI_uD, sN_uD, sL_uD, sD_uD]; rfl)
theorem ku_ou (h : k < sN S 1 0) {v : Nat} : kr_up (kr_cells G g S Z) (5, k) (kr_o 6 [.int (nI k), .ref (gA g (6, k)), va_rf (kr_ow g (sN S 3 k) k), .int (nI (sN S 6 k)), .int (nI (v)), .int (sI S 3 k), .int (sI S 4 k)]) = kr_cells G g (uN S 7 k v) Z := by
  refine kc_one ?_ ?_
  · simp [kr_cells, sI_uI, sI_uN, sI_uL, sN_uI, sN_uN, sN_uL, sL_uI, sL_uN, sL_uL, sD_uI, sD_uN, sD_uL, sI_uD, sN_uD, sL_uD, sD_uD, *]
  · rintro ⟨a, b⟩ hab
    unfold kr_cells
    dsimp only
    split <;> first | rfl | (simp_all [sI_uI, sI_uN, sI_uL, sN_uI, sN_uN, sN_uL, sL_uI, sL_uN, sL_uL, sD_uI, sD_uN, sD_uL, sI_uD, sN_uD, sL_uD, sD_uD]; done) | (simp_all [sI_uI, sI_uN, sI_uL, sN_uI, sN_uN, sN_uL, sL_uI, sL_uN, sL_uL, sD_uI, sD_uN, sD_uL, sI_uD, sN_uD, sL_uD, sD_uD]; rfl)
theorem ku_frozen (h : k < sN S 1 0) {v : Int32} : kr_up (kr_cells G g S Z) (5, k) (kr_o 6 [.int (nI k), .ref (gA g (6, k)), va_rf (kr_ow g (sN S 3 k) k), .int (nI (sN S 6 k)), .int (nI (sN S 7 k)), .int (v), .int (sI S 4 k)]) = kr_cells G g (uI S 3 k v) Z := by
  refine kc_one ?_ ?_
  · simp [kr_cells, sI_uI, sI_uN, sI_uL, sN_uI, sN_uN, sN_uL, sL_uI, sL_uN, sL_uL, sD_uI, sD_uN, sD_uL, sI_uD, sN_uD, sL_uD, sD_uD, *]
  · rintro ⟨a, b⟩ hab
    unfold kr_cells
    dsimp only
    split <;> first | rfl | (simp_all [sI_uI, sI_uN, sI_uL, sN_uI, sN_uN, sN_uL, sL_uI, sL_uN, sL_uL, sD_uI, sD_uN, sD_uL, sI_uD, sN_uD, sL_uD, sD_uD]; done) | (simp_all [sI_uI, sI_uN, sI_uL, sN_uI, sN_uN, sN_uL, sL_uI, sL_uN, sL_uL, sD_uI, sD_uN, sD_uL, sI_uD, sN_uD, sL_uD, sD_uD]; rfl)
theorem ku_slide (h : k < sN S 1 0) {v : Int32} : kr_up (kr_cells G g S Z) (5, k) (kr_o 6 [.int (nI k), .ref (gA g (6, k)), va_rf (kr_ow g (sN S 3 k) k), .int (nI (sN S 6 k)), .int (nI (sN S 7 k)), .int (sI S 3 k), .int (v)]) = kr_cells G g (uI S 4 k v) Z := by
  refine kc_one ?_ ?_
  · simp [kr_cells, sI_uI, sI_uN, sI_uL, sN_uI, sN_uN, sN_uL, sL_uI, sL_uN, sL_uL, sD_uI, sD_uN, sD_uL, sI_uD, sN_uD, sL_uD, sD_uD, *]
  · rintro ⟨a, b⟩ hab
    unfold kr_cells
    dsimp only
    split <;> first | rfl | (simp_all [sI_uI, sI_uN, sI_uL, sN_uI, sN_uN, sN_uL, sL_uI, sL_uN, sL_uL, sD_uI, sD_uN, sD_uL, sI_uD, sN_uD, sL_uD, sD_uD]; done) | (simp_all [sI_uI, sI_uN, sI_uL, sN_uI, sN_uN, sN_uL, sL_uI, sL_uN, sL_uL, sD_uI, sD_uN, sD_uL, sI_uD, sN_uD, sL_uD, sD_uD]; rfl)
theorem ku_at (h : sN S 15 k = 1) {v : Nat} : kr_up (kr_cells G g S Z) (7, k) (kr_o 5 [.int (nI k), .ref (gA g (8, k)), va_rf (kr_op (fun i => gA g (5, i)) v), .int (sI S 1 k), .int (sI S 2 k), .int (nI (sN S 8 k))]) = kr_cells G g (uN S 4 k v) Z := by
  refine kc_one ?_ ?_
  · simp [kr_cells, sI_uI, sI_uN, sI_uL, sN_uI, sN_uN, sN_uL, sL_uI, sL_uN, sL_uL, sD_uI, sD_uN, sD_uL, sI_uD, sN_uD, sL_uD, sD_uD, *]
  · rintro ⟨a, b⟩ hab
    unfold kr_cells
    dsimp only
    split <;> first | rfl | (simp_all [sI_uI, sI_uN, sI_uL, sN_uI, sN_uN, sN_uL, sL_uI, sL_uN, sL_uL, sD_uI, sD_uN, sD_uL, sI_uD, sN_uD, sL_uD, sD_uD]; done) | (simp_all [sI_uI, sI_uN, sI_uL, sN_uI, sN_uN, sN_uL, sL_uI, sL_uN, sL_uL, sD_uI, sD_uN, sD_uL, sI_uD, sN_uD, sL_uD, sD_uD]; rfl)
theorem ku_count (h : sN S 15 k = 1) {v : Int32} : kr_up (kr_cells G g S Z) (7, k) (kr_o 5 [.int (nI k), .ref (gA g (8, k)), va_rf (kr_op (fun i => gA g (5, i)) (sN S 4 k)), .int (v), .int (sI S 2 k), .int (nI (sN S 8 k))]) = kr_cells G g (uI S 1 k v) Z := by
  refine kc_one ?_ ?_
  · simp [kr_cells, sI_uI, sI_uN, sI_uL, sN_uI, sN_uN, sN_uL, sL_uI, sL_uN, sL_uL, sD_uI, sD_uN, sD_uL, sI_uD, sN_uD, sL_uD, sD_uD, *]
  · rintro ⟨a, b⟩ hab
    unfold kr_cells
    dsimp only
    split <;> first | rfl | (simp_all [sI_uI, sI_uN, sI_uL, sN_uI, sN_uN, sN_uL, sL_uI, sL_uN, sL_uL, sD_uI, sD_uN, sD_uL, sI_uD, sN_uD, sL_uD, sD_uD]; done) | (simp_all [sI_uI, sI_uN, sI_uL, sN_uI, sN_uN, sN_uL, sL_uI, sL_uN, sL_uL, sD_uI, sD_uN, sD_uL, sI_uD, sN_uD, sL_uD, sD_uD]; rfl)
theorem ku_wait (h : sN S 15 k = 1) {v : Int32} : kr_up (kr_cells G g S Z) (7, k) (kr_o 5 [.int (nI k), .ref (gA g (8, k)), va_rf (kr_op (fun i => gA g (5, i)) (sN S 4 k)), .int (sI S 1 k), .int (v), .int (nI (sN S 8 k))]) = kr_cells G g (uI S 2 k v) Z := by
  refine kc_one ?_ ?_
  · simp [kr_cells, sI_uI, sI_uN, sI_uL, sN_uI, sN_uN, sN_uL, sL_uI, sL_uN, sL_uL, sD_uI, sD_uN, sD_uL, sI_uD, sN_uD, sL_uD, sD_uD, *]
  · rintro ⟨a, b⟩ hab
    unfold kr_cells
    dsimp only
    split <;> first | rfl | (simp_all [sI_uI, sI_uN, sI_uL, sN_uI, sN_uN, sN_uL, sL_uI, sL_uN, sL_uL, sD_uI, sD_uN, sD_uL, sI_uD, sN_uD, sL_uD, sD_uD]; done) | (simp_all [sI_uI, sI_uN, sI_uL, sN_uI, sN_uN, sN_uL, sL_uI, sL_uN, sL_uL, sD_uI, sD_uN, sD_uL, sI_uD, sN_uD, sL_uD, sD_uD]; rfl)
theorem ku_qd (h : sN S 15 k = 1) {v : Nat} : kr_up (kr_cells G g S Z) (7, k) (kr_o 5 [.int (nI k), .ref (gA g (8, k)), va_rf (kr_op (fun i => gA g (5, i)) (sN S 4 k)), .int (sI S 1 k), .int (sI S 2 k), .int (nI (v))]) = kr_cells G g (uN S 8 k v) Z := by
  refine kc_one ?_ ?_
  · simp [kr_cells, sI_uI, sI_uN, sI_uL, sN_uI, sN_uN, sN_uL, sL_uI, sL_uN, sL_uL, sD_uI, sD_uN, sD_uL, sI_uD, sN_uD, sL_uD, sD_uD, *]
  · rintro ⟨a, b⟩ hab
    unfold kr_cells
    dsimp only
    split <;> first | rfl | (simp_all [sI_uI, sI_uN, sI_uL, sN_uI, sN_uN, sN_uL, sL_uI, sL_uN, sL_uL, sD_uI, sD_uN, sD_uL, sI_uD, sN_uD, sL_uD, sD_uD]; done) | (simp_all [sI_uI, sI_uN, sI_uL, sN_uI, sN_uN, sN_uL, sL_uI, sL_uN, sL_uL, sD_uI, sD_uN, sD_uL, sI_uD, sN_uD, sL_uD, sD_uD]; rfl)
theorem ku_hold (h : k < sN S 14 0) {v : Nat} : kr_up (kr_cells G g S Z) (11, k) (kr_o 2 [.ref (gA g (12, k)), va_rf (kr_op (fun i => gA g (7, i)) v)]) = kr_cells G g (uN S 9 k v) Z := by
  refine kc_one ?_ ?_
  · simp [kr_cells, sI_uI, sI_uN, sI_uL, sN_uI, sN_uN, sN_uL, sL_uI, sL_uN, sL_uL, sD_uI, sD_uN, sD_uL, sI_uD, sN_uD, sL_uD, sD_uD, *]
  · rintro ⟨a, b⟩ hab
    unfold kr_cells
    dsimp only
    split <;> first | rfl | (simp_all [sI_uI, sI_uN, sI_uL, sN_uI, sN_uN, sN_uL, sL_uI, sL_uN, sL_uL, sD_uI, sD_uN, sD_uL, sI_uD, sN_uD, sL_uD, sD_uD]; done) | (simp_all [sI_uI, sI_uN, sI_uL, sN_uI, sN_uN, sN_uL, sL_uI, sL_uN, sL_uL, sD_uI, sD_uN, sD_uL, sI_uD, sN_uD, sL_uD, sD_uD]; rfl)
theorem ku_vat (h : k < sN S 2 0) {v : Nat} : kr_up (kr_cells G g S Z) (13, k) (kr_o 7 [.ref (gA g (14, k)), .ref (gA g (15, k)), .ref (gA g (16, k)), va_rf (kr_op (fun i => gA g (5, i)) v)]) = kr_cells G g (uN S 10 k v) Z := by
  refine kc_one ?_ ?_
  · simp [kr_cells, sI_uI, sI_uN, sI_uL, sN_uI, sN_uN, sN_uL, sL_uI, sL_uN, sL_uL, sD_uI, sD_uN, sD_uL, sI_uD, sN_uD, sL_uD, sD_uD, *]
  · rintro ⟨a, b⟩ hab
    unfold kr_cells
    dsimp only
    split <;> first | rfl | (simp_all [sI_uI, sI_uN, sI_uL, sN_uI, sN_uN, sN_uL, sL_uI, sL_uN, sL_uL, sD_uI, sD_uN, sD_uL, sI_uD, sN_uD, sL_uD, sD_uD]; done) | (simp_all [sI_uI, sI_uN, sI_uL, sN_uI, sN_uN, sN_uL, sL_uI, sL_uN, sL_uL, sD_uI, sD_uN, sD_uL, sI_uD, sN_uD, sL_uD, sD_uD]; rfl)
end
