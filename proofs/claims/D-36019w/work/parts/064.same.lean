/-! WHAT A TURN LEAVES ALONE (plain law); ticks in plain Lean -/
set_option maxRecDepth 100000
def kr_tr (S S' : kr_St) : Prop :=
  (∀ a b, a < 100 → a ≠ 5 → a ≠ 8 → a ≠ 9 → a ≠ 11 → sN S' a b = sN S a b) ∧ (∀ a b, a ≠ 3 → a ≠ 4 → sL S' a b = sL S a b) ∧ (∀ b, sI S' 3 b = sI S 3 b ∧ sI S' 6 b = sI S 6 b) ∧
  (∀ k, sN S 1 0 ≤ k → sI S' 4 k = sI S 4 k) ∧ (∀ v, sN S 2 0 ≤ v → ∀ s, sI S' (2 * v + 100) s = sI S (2 * v + 100) s ∧ sN S' (v + 100) s = sN S (v + 100) s) ∧ ∀ v s, sI S' (2 * v + 101) s = sI S (2 * v + 101) s
theorem kr_tr.rf {S : kr_St} : kr_tr S S := ⟨fun _ _ _ _ _ _ _ => rfl, fun _ _ _ _ => rfl, fun _ => ⟨rfl, rfl⟩, fun _ _ => rfl, fun _ _ _ => ⟨rfl, rfl⟩, fun _ _ => rfl⟩
theorem kr_tr.tr {S U W : kr_St} (h : kr_tr S U) (k : kr_tr U W) : kr_tr S W := by
  obtain ⟨h1, h2, h3, h4, h5, h6⟩ := h
  obtain ⟨k1, k2, k3, k4, k5, k6⟩ := k
  refine ⟨fun a b e1 e2 e3 e4 e5 => (k1 a b e1 e2 e3 e4 e5).trans (h1 a b e1 e2 e3 e4 e5), fun a b e1 e2 => (k2 a b e1 e2).trans (h2 a b e1 e2), fun b => ⟨(k3 b).1.trans (h3 b).1, (k3 b).2.trans (h3 b).2⟩, fun j hj => (k4 j ?_).trans (h4 j hj), fun v hv s => ⟨(k5 v ?_ s).1.trans (h5 v hv s).1, (k5 v ?_ s).2.trans (h5 v hv s).2⟩, fun v s => (k6 v s).trans (h6 v s)⟩
  · rw [h1 1 0 (by decide) (by decide) (by decide) (by decide) (by decide)]
    exact hj
  · rw [h1 2 0 (by decide) (by decide) (by decide) (by decide) (by decide)]
    exact hv
  · rw [h1 2 0 (by decide) (by decide) (by decide) (by decide) (by decide)]
    exact hv
theorem kr_tr.int {S U : kr_St} (h : kr_tr S U) {f k : Nat} {v : Int32} (hf : f = 0 ∨ f = 1 ∨ f = 2 ∨ f = 5) : kr_tr S (uI U f k v) := by
  refine h.tr ⟨fun _ _ _ _ _ _ _ => rfl, fun _ _ _ _ => rfl, fun b => ⟨?_, ?_⟩, fun j _ => ?_, fun w _ s => ⟨?_, rfl⟩, fun w s => ?_⟩
  all_goals (rw [sI_uI, if_neg (fun z => by omega)])
theorem kr_tr.int4 {S U : kr_St} (h : kr_tr S U) {k : Nat} {v : Int32} (hk : k < sN U 1 0) : kr_tr S (uI U 4 k v) := by
  refine h.tr ⟨fun _ _ _ _ _ _ _ => rfl, fun _ _ _ _ => rfl, fun b => ⟨?_, ?_⟩, fun j hj => ?_, fun w _ s => ⟨?_, rfl⟩, fun w s => ?_⟩
  all_goals (rw [sI_uI, if_neg (fun z => by omega)])
theorem kr_tr.num {S U : kr_St} (h : kr_tr S U) {f k : Nat} {v : Nat} (hf : f = 5 ∨ f = 8 ∨ f = 9 ∨ f = 11) : kr_tr S (uN U f k v) := by
  refine h.tr ⟨fun a b e1 e2 e3 e4 e5 => ?_, fun _ _ _ _ => rfl, fun b => ⟨rfl, rfl⟩, fun j hj => rfl, fun w _ s => ⟨rfl, ?_⟩, fun w s => rfl⟩
  all_goals (rw [sN_uN, if_neg (fun z => by omega)])
theorem kr_tr.lst {S U : kr_St} (h : kr_tr S U) {f k : Nat} {v : List Nat} (hf : f = 3 ∨ f = 4) : kr_tr S (uL U f k v) := by
  refine h.tr ⟨fun a b e1 e2 e3 e4 e5 => rfl, fun a b e1 e2 => ?_, fun b => ⟨rfl, rfl⟩, fun j hj => rfl, fun w _ s => ⟨rfl, rfl⟩, fun w s => rfl⟩
  rw [sL_uL, if_neg (fun z => by omega)]
theorem kr_tr.lon {S U : kr_St} (h : kr_tr S U) {v : Int64} : kr_tr S (uD U v) := h.tr ⟨fun _ _ _ _ _ _ _ => rfl, fun _ _ _ _ => rfl, fun _ => ⟨rfl, rfl⟩, fun _ _ => rfl, fun _ _ _ => ⟨rfl, rfl⟩, fun _ _ => rfl⟩
theorem kr_tr.see {S U : kr_St} (h : kr_tr S U) {v s : Nat} (hv : v < sN U 2 0) : kr_tr S (oSee U v s) := by
  refine h.tr ⟨fun a b e1 e2 e3 e4 e5 => ?_, fun a b e1 e2 => rfl, fun b => ⟨?_, ?_⟩, fun j hj => ?_, fun w hw s' => ⟨?_, ?_⟩, fun w s' => ?_⟩ <;> unfold oSee
  · rw [sN_uN, if_neg (fun z => by omega)]
    rfl
  · rw [sI_uN, sI_uI, if_neg (fun z => by omega)]
  · rw [sI_uN, sI_uI, if_neg (fun z => by omega)]
  · rw [sI_uN, sI_uI, if_neg (fun z => by omega)]
  · rw [sI_uN, sI_uI, if_neg (fun z => by omega)]
  · rw [sN_uN, if_neg (fun z => by omega)]
    rfl
  · rw [sI_uN, sI_uI, if_neg (fun z => by omega)]
theorem kr_tr.K {S U : kr_St} (h : kr_tr S U) : sN U 1 0 = sN S 1 0 := h.1 1 0 (by decide) (by decide) (by decide) (by decide) (by decide)
theorem kr_tr.N {S U : kr_St} (h : kr_tr S U) : sN U 2 0 = sN S 2 0 := h.1 2 0 (by decide) (by decide) (by decide) (by decide) (by decide)
theorem kr_tr.sees {S U : kr_St} (h : kr_tr S U) {k s : Nat} : ∀ n, n ≤ sN U 2 0 → kr_tr S (oSees U k s n)
  | 0, _ => h
  | n + 1, hn => by
    have ih := kr_tr.sees h (k := k) (s := s) n (by omega)
    show kr_tr S (if _ then _ else _)
    split
    · exact ih.see (by rw [ih.N, ← h.N]; omega)
    · exact ih
theorem kr_tr.show {S U : kr_St} (h : kr_tr S U) {k s : Nat} (hk : k < sN U 1 0) : kr_tr S (oShow U k s) := by
  unfold oShow
  split
  · exact h
  · exact ((h.int4 hk).int (Or.inl rfl)).sees _ (Nat.le_refl _)
theorem kr_tr.fre {S U : kr_St} (h : kr_tr S U) {d : Nat} : kr_tr S (oF U d) := by
  unfold oF
  split
  · exact h.num (by omega)
  · exact ((h.lst (by omega)).num (by omega)).num (by omega)
theorem kr_tr.tak {S U : kr_St} (h : kr_tr S U) {p d : Nat} : kr_tr S (oTake U p d) := by
  unfold oTake
  split
  · exact h
  · split
    · exact h.num (by omega)
    · exact (h.lst (by omega)).num (by omega)
theorem kr_tr.frm {S U : kr_St} (h : kr_tr S U) {p n f i : Nat} : kr_tr S (oFrame (oDepth U p n) f i) :=
  (((h.num (f := 5) (by omega)).num (f := 11) (by omega)).int (f := 5) (by omega)).lst (by omega)
theorem kr_tr.act {S U : kr_St} (h : kr_tr S U) {p k q : Nat} (hk : k < sN U 1 0) : kr_tr S (oAct U p k q).1 := by
  unfold oAct
  split
  · exact h.show hk
  split
  · exact h.int (by omega)
  split
  · exact h.tak
  split
  · dsimp only
    unfold oFree
    split
    · exact h.fre
    · exact h
  split
  · exact h.int (by omega)
  split
  · dsimp only
    unfold oAlone
    split
    · exact h.int (by omega)
    · exact h
  split
  · dsimp only
    split
    · exact h.int (by omega)
    · exact h.int (by omega)
  split
  · exact h.int (by omega)
  · dsimp only
    unfold oPush
    split
    · exact h.frm
    · exact h
theorem kr_tr.pop {S U : kr_St} (h : kr_tr S U) {p : Nat} : ∀ n, kr_tr S (oPop U p n) := fun n => by
  induction n generalizing U with
  | zero => exact h
  | succ n ih =>
    show kr_tr S (if _ then _ else _)
    split
    · exact ih (h.num (by omega))
    · exact h
theorem kr_tr.line1 {S U : kr_St} (h : kr_tr S U) {p k : Nat} (hk : k < sN U 1 0) : kr_tr S (oLine1 U p k).1 := by
  unfold oLine1
  split
  · exact h.lon.frm
  · exact (h.lon.int (by omega)).act hk
theorem oGo_ok (p k : Nat) : ∀ (n : Nat) (S : kr_St) (b : Bool), kr_V S → sN S 15 p = 1 → k < sN S 1 0 → (b = true → sN S 8 p = 0) → kr_V (oGo S p k n b) ∧ kr_tr S (oGo S p k n b)
  | 0, S, b, hV, _, _, _ => ⟨hV, kr_tr.rf⟩
  | n + 1, S, b, hV, hp, hk, hb => by
    have eo : oGo S p k (n + 1) b = if b then oGo (oLine S p k).1 p k n (oLine S p k).2 else S := rfl
    rw [eo]
    cases b with
    | false => exact ⟨hV, kr_tr.rf⟩
    | true =>
      rw [if_pos rfl]
      have hV1 := oPop_V hV p 4
      have t1 : kr_tr S (oPop S p 4) := kr_tr.rf.pop 4
      have hp1 : sN (oPop S p 4) 15 p = 1 := by rw [oPop_N p (by decide)]; exact hp
      have hk1 : k < sN (oPop S p 4) 1 0 := by rw [oPop_N p (by decide)]; exact hk
      have h81 : sN (oPop S p 4) 8 p = 0 := by rw [oPop_N p (by decide)]; exact hb rfl
      have t2 : kr_tr S (oLine S p k).1 := t1.line1 hk1
      obtain ⟨r1, r2⟩ := oGo_ok p k n (oLine S p k).1 (oLine S p k).2 (oLine1_V hV1 hp1 h81) (by rw [t2.1 15 p (by decide) (by decide) (by decide) (by decide) (by decide)]; exact hp) (by rw [t2.K]; exact hk) (fun z => oLine1_8 _ p k h81 z)
      exact ⟨r1, t2.tr r2⟩
theorem oTurn_ok {S : kr_St} {p k : Nat} (hV : kr_V S) (hp : sN S 15 p = 1) (hk : k < sN S 1 0) : kr_V (oTurn S p k) ∧ kr_tr S (oTurn S p k) := by
  unfold oTurn
  split
  · exact ⟨hV.int (by decide), kr_tr.rf.int (by omega)⟩
  · exact oGo_ok p k 8 S _ hV hp hk (fun z => of_decide_eq_true z)
theorem kr_Pl.tr {S U : kr_St} (h : kr_Pl S) (t : kr_tr S U) : kr_Pl U := by
  have eN : ∀ a b, a < 100 → a ≠ 5 → a ≠ 8 → a ≠ 9 → a ≠ 11 → sN U a b = sN S a b := t.1
  have eL : ∀ k, sL U 2 k = sL S 2 k := fun k => t.2.1 2 k (by decide) (by decide)
  obtain ⟨h1, h2⟩ := h
  refine ⟨h1.cg t.K (fun p => eN 3 p (by decide) (by decide) (by decide) (by decide) (by decide)) (fun p => eN 4 p (by decide) (by decide) (by decide) (by decide) (by decide)) (fun p => eN 15 p (by decide) (by decide) (by decide) (by decide) (by decide)) (fun k hk => ?_) (fun k hk => ?_) (fun k hk => eL k), fun k hk => ?_⟩
  · rw [eN 6 k (by decide) (by decide) (by decide) (by decide) (by decide)]
    exact (h1.2.1 k hk).2.1
  · rw [eN 7 k (by decide) (by decide) (by decide) (by decide) (by decide)]
    exact (h1.2.1 k hk).2.2
  · rw [t.K] at hk
    rw [eN 7 k (by decide) (by decide) (by decide) (by decide) (by decide), eL, (t.2.2.1 k).1]
    exact h2 k hk
/-- the players at a kiosk, each its turn -/
def oRow (k : Nat) : List Nat → kr_St → kr_St
  | [], S => S
  | p :: ps, S => oRow k ps (if sN S 6 k = 0 then oTurn S p k else S)
def oAll (S : kr_St) : Nat → kr_St
  | 0 => S
  | n + 1 => oRow n (sL S 2 n) (oAll S n)
def oTick1 (S : kr_St) : kr_St := oWatch (oAll S (sN S 1 0)) (sN S 1 0)
def oTicks (S : kr_St) : Nat → kr_St
  | 0 => S
  | n + 1 => oTick1 (oTicks S n)
def oTick (S : kr_St) (n : Nat) : kr_St := oTicks (uI S 0 0 0) n
theorem oStep_ok {S : kr_St} {p k : Nat} (hV : kr_V S) (hp : sN S 15 p = 1) (hk : k < sN S 1 0) : kr_V (if sN S 6 k = 0 then oTurn S p k else S) ∧ kr_tr S (if sN S 6 k = 0 then oTurn S p k else S) := by
  split
  · exact oTurn_ok hV hp hk
  · exact ⟨hV, kr_tr.rf⟩
theorem oRow_ok {k : Nat} : ∀ (xs : List Nat) {S : kr_St}, kr_V S → (∀ p ∈ xs, sN S 15 p = 1) → k < sN S 1 0 → kr_V (oRow k xs S) ∧ kr_tr S (oRow k xs S)
  | [], S, hV, _, _ => ⟨hV, kr_tr.rf⟩
  | p :: ps, S, hV, hx, hk => by
    obtain ⟨a1, a2⟩ := oStep_ok hV (hx p List.mem_cons_self) hk
    obtain ⟨b1, b2⟩ := oRow_ok ps a1 (fun q hq => by rw [a2.1 15 q (by decide) (by decide) (by decide) (by decide) (by decide)]; exact hx q (List.mem_cons_of_mem _ hq)) (by rw [a2.K]; exact hk)
    exact ⟨b1, a2.tr b2⟩
theorem oAll_ok {S : kr_St} (hV : kr_V S) : ∀ n, n ≤ sN S 1 0 → kr_V (oAll S n) ∧ kr_tr S (oAll S n)
  | 0, _ => ⟨hV, kr_tr.rf⟩
  | n + 1, h => by
    obtain ⟨a1, a2⟩ := oAll_ok hV n (by omega)
    obtain ⟨b1, b2⟩ := oRow_ok (k := n) (sL S 2 n) a1 (fun q hq => by rw [a2.1 15 q (by decide) (by decide) (by decide) (by decide) (by decide)]; exact hV.2.1.1 n (by omega) q hq) (by rw [a2.K]; omega)
    exact ⟨b1, a2.tr b2⟩
theorem oTick1_ok {S : kr_St} (hV : kr_V S) (hP : kr_Pl S) : kr_V (oTick1 S) ∧ kr_Pl (oTick1 S) ∧ sN (oTick1 S) 1 0 = sN S 1 0 := by
  obtain ⟨a1, a2⟩ := oAll_ok hV (sN S 1 0) (Nat.le_refl _)
  have hP2 := hP.tr a2
  obtain ⟨b1, b2⟩ := oWatch_ok a1 hP2 (sN S 1 0) (by rw [a2.K]; exact Nat.le_refl _)
  refine ⟨b1, b2, ?_⟩
  show sN (oWatch (oAll S (sN S 1 0)) (sN S 1 0)) 1 0 = _
  rw [oWatch_N _ 1 0 (by decide) (by decide), a2.K]
theorem oTicks_ok {S : kr_St} (hV : kr_V S) (hP : kr_Pl S) : ∀ n, kr_V (oTicks S n) ∧ kr_Pl (oTicks S n) ∧ sN (oTicks S n) 1 0 = sN S 1 0
  | 0 => ⟨hV, hP, rfl⟩
  | n + 1 => by
    obtain ⟨a1, a2, a3⟩ := oTicks_ok hV hP n
    obtain ⟨b1, b2, b3⟩ := oTick1_ok a1 a2
    exact ⟨b1, b2, b3.trans a3⟩
