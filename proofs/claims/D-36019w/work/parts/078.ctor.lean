/-! THE CONSTRUCTOR of KioskReel (printed by tools/gen_ctor.py) -/
set_option maxRecDepth 100000
/-- a fresh KioskReel with n devices -/
def oFresh (n : Nat) : kr_St := (fun a _ => if a = 4 then -1 else 0, fun a b => if a = 14 ∧ b = 0 then n else 0, fun _ _ => [], 0)
theorem oFresh_N (n a b : Nat) : sN (oFresh n) a b = if a = 14 ∧ b = 0 then n else 0 := rfl
theorem oFresh_N0 (n a b : Nat) (h : a ≠ 14) : sN (oFresh n) a b = 0 := if_neg (fun z => h z.1)
theorem oFresh_14 (n : Nat) : sN (oFresh n) 14 0 = n := by rw [oFresh_N, if_pos ⟨rfl, rfl⟩]
theorem oFresh_I3 (n : Nat) : kr_I (oFresh n) := ⟨fun k hk p hp => (by cases hp), fun d hd p hp => (by cases hp), fun i hi q hq => (by cases hq), fun p hp => (by rw [oFresh_N0 _ _ _ (by decide)] at hp; cases hp)⟩
theorem oFresh_V : kr_V (oFresh 6) := ⟨⟨by decide, by decide, by decide, rfl⟩, oFresh_I3 6, fun i hi => absurd hi (Nat.not_lt_zero _), fun q hq => absurd rfl hq, fun p hp => (by cases hp), fun d hd => ⟨fun j hj => (by cases hj), List.nodup_nil, Nat.zero_le _⟩, fun v hv => absurd hv (Nat.not_lt_zero _)⟩
theorem oFresh_Pl : kr_Pl (oFresh 6) := ⟨⟨fun p => ⟨fun h => (by cases h), fun h => absurd h.1 (Nat.not_lt_zero _)⟩, fun k hk => absurd hk (Nat.not_lt_zero _), fun k hk => absurd hk (Nat.not_lt_zero _)⟩, fun k hk => absurd hk (Nat.not_lt_zero _)⟩
theorem oFresh_V0 : kr_V0 (oFresh 6) := ⟨fun i _ => ⟨rfl, rfl⟩, fun k _ => ⟨rfl, rfl, rfl, rfl, rfl, rfl⟩, fun v _ => ⟨rfl, fun s => ⟨by
  show (if 2 * v + 100 = 4 then (-1 : Int32) else 0) = 0
  rw [if_neg (by omega)], by
  show (if 2 * v + 101 = 4 then (-1 : Int32) else 0) = 0
  rw [if_neg (by omega)], by
  rw [oFresh_N0 _ _ _ (by omega)]⟩⟩⟩
def g00 : kr_Gh := (fun r => r.2, fun _ => 0, fun _ => 0)
theorem g00_ok : kr_gok g00 := ⟨fun q => ⟨rfl, rfl⟩, fun r => Or.inl rfl, fun q => rfl⟩
section
variable {G : kr_G} {l : Launch} {g g' : kr_Gh} {S S' : kr_St} {Z Z' : kr_Ro → Option kr_AE} {ad : kr_Ro → Nat} {σ : kr_Ro → Option kr_AE}
theorem kr_S.mkg {H H1 : Heap} (h : kr_S G ad σ H) (ha2 : ∀ q : Nat, ad (20, q) = q) {e : kr_E} (ha : kr_is G H.size e H1) (ho : kr_old G H.size) (u : kr_new H H1) : σ (20, H.size) = none ∧ kr_S G ad (kr_up σ (20, H.size) (some (.inl e))) H1 := by
  have h0 := h.free (ha2 H.size)
  exact ⟨h0, h.new (i := (20, H.size)) (ad' := ad) (e := e) h0 (fun _ _ => rfl) (ha2 _) ha ho u⟩
theorem kr_S.empty (H : Heap) : kr_S G ad (fun _ => none) H := ⟨fun i z hi => (by cases hi), fun _ => 0, ⟨fun r e hr => (by cases r <;> cases hr), fun r r' hr => (by cases r <;> exact absurd rfl hr)⟩, fun i z hi => (by cases hi)⟩
theorem kr_S.newDevice {H : Heap} {n q q1 cap : Nat} {mc : Int32} (hg : kr_gok g) (hc : cap = 0 ∨ (10 ≤ cap ∧ cap ≤ 600)) (hZ : ∀ r z, Z r ≠ some (.inr z)) (hq : Z (20, q) = none) (hq1 : Z (20, q1) = none) (n1 : q1 ≠ q)
    (h : kr_S G (gA g) (kr_up (kr_cells G g (oFresh n) (kr_up (kr_up Z (20, q1) kr_l0) (20, q) (kr_o 2 [.ref q1, .null]))) (1, 2) (some (.inr ((List.range n).map (fun i => gA g (11, i)) ++ [q], mc, cap)))) H) : kr_Hx G [1, 11, 12] g (oFresh (n + 1)) Z H := by
  generalize hg2 : gL (gL (gNew g [((11, n), q), ((12, n), q1)]) (12, n) 0 0) (1, 2) mc cap = g2
  have hgs : kr_gsm [1, 11, 12] g g2 := by
    rw [← hg2]
    exact ((kr_gsm_new (K := [1, 11, 12]) (by simp)).tr (kr_gsm_gL (r := (12, n))) (fun _ z => z) (by simp)).tr (kr_gsm_gL (r := (1, 2))) (fun _ z => z) (by simp)
  have hgk : kr_gok g2 := by
    rw [← hg2]
    exact kr_gok_gL (kr_gok_gL (kr_gok_new hg (by simp)) (Or.inl rfl)) hc
  have eA1 : ∀ c x : Nat, c ≠ 11 → c ≠ 12 → gA g2 (c, x) = gA g (c, x) := fun c x c2 c3 => by
    rw [← hg2]
    exact gNew_n (by simp; omega)
  have eAx : ∀ c x : Nat, x ≠ n → gA g2 (c, x) = gA g (c, x) := fun c x hx => by
    rw [← hg2]
    exact gNew_n (by simp; omega)
  have a5 : gA g2 (11, n) = q := by rw [← hg2]; exact gNew_s
  have a6 : gA g2 (12, n) = q1 := by rw [← hg2]; exact (gNew_t (fun z => absurd (Prod.mk.inj z).1 (by decide))).trans gNew_s
  have eM1 : ∀ x : Nat, x ≠ 2 → gM g2 (1, x) = gM g (1, x) ∧ gC g2 (1, x) = gC g (1, x) := fun x h1 => by
    rw [← hg2]
    simp [gL, gNew, kr_up, gM, gC, h1]
  have eM6 : ∀ x : Nat, x ≠ n → gM g2 (12, x) = gM g (12, x) ∧ gC g2 (12, x) = gC g (12, x) := fun x h1 => by
    rw [← hg2]
    simp [gL, gNew, kr_up, gM, gC, h1]
  have m6 : gM g2 (12, n) = 0 ∧ gC g2 (12, n) = 0 := by
    rw [← hg2]
    simp [gL, gNew, kr_up, gM, gC]
  have m1 : gM g2 (1, 2) = mc ∧ gC g2 (1, 2) = cap := by
    rw [← hg2]
    simp [gL, gNew, kr_up, gM, gC]
  refine kr_Hx.of (kr_S.ren h [((11, n), q), ((12, n), q1)] ?_ ?_ (fun r hr c hc => ?_) ?_ ((oFresh_I3 (n + 1)).elem hgk.1 hZ)) hgs hgk
  · simp only [List.mem_cons, List.not_mem_nil, or_false]
    rintro e (rfl | rfl) e' (rfl | rfl) z <;> first | rfl | (exact absurd z n1) | (exact absurd z.symm n1)
  · simp only [List.mem_cons, List.not_mem_nil, or_false]
    rintro e (rfl | rfl)
    · refine ⟨?_, (hg.2.2 q).trans a5.symm⟩
      rw [kr_up_n (fun z => absurd (Prod.mk.inj z).1 (by decide)), kc_Z2, kr_up_s, kc_11 (by rw [oFresh_14]; omega), a6]
      rfl
    · refine ⟨?_, (hg.2.2 q1).trans a6.symm⟩
      rw [kr_up_n (fun z => absurd (Prod.mk.inj z).1 (by decide)), kc_Z2, kr_up_n (kr_ne20 n1), kr_up_s, kc_12 (by rw [oFresh_14]; omega)]
      show kr_l0 = (some (.inr ([], gM g2 (12, n), gC g2 (12, n))) : Option kr_AE)
      rw [m6.1, m6.2]
  · simp only [List.mem_cons, List.not_mem_nil, or_false, forall_eq_or_imp, forall_eq] at hr
    obtain ⟨r5, r6⟩ := hr
    by_cases r1 : r = (1, 2)
    · subst r1
      rw [kc_l2, oFresh_14] at hc
      rw [kr_up_s]
      refine ⟨?_, (eA1 1 2 (by decide) (by decide)).symm⟩
      rw [← hc, show kr_li g2 (1, 2) ((List.range (n + 1)).map fun i => gA g2 (11, i)) = some (.inr ((List.range (n + 1)).map (fun i => gA g2 (11, i)), gM g2 (1, 2), gC g2 (1, 2))) from rfl, m1.1, m1.2]
      have el : (List.range (n + 1)).map (fun i => gA g2 (11, i)) = (List.range n).map (fun i => gA g (11, i)) ++ [q] := by
        rw [List.range_succ, List.map_append, List.map_singleton, a5]
        congr 1
        exact List.map_congr_left fun i hi => eAx 11 i (Nat.ne_of_lt (List.mem_range.mp hi))
      rw [el]
    rw [kr_up_n r1]
    obtain ⟨a, b⟩ := r
    by_cases h18 : 18 ≤ a
    · rw [kc_Z (r := (a, b)) h18] at hc ⊢
      refine ⟨?_, (eA1 a b (by omega) (by omega)).symm⟩
      have nz : ∀ y, Z (20, y) = none → (a, b) ≠ (20, y) := fun y hy z => by rw [z, hy] at hc; cases hc
      rw [kr_up_n (nz q hq), kr_up_n (nz q1 hq1)]
      exact hc
    have hbn : a = 11 ∨ a = 12 → b ≠ n := by
      rintro (rfl | rfl) z
      · exact r5 (by rw [z])
      · exact r6 (by rw [z])
    have hb0 : a = 1 → b ≠ 2 := by
      rintro rfl z
      exact r1 (by rw [z])
    refine ⟨?_, ?_⟩
    rotate_left
    · by_cases e : a = 11 ∨ a = 12
      · exact (eAx a b (hbn e)).symm
      · exact (eA1 a b (by omega) (by omega)).symm
    clear r1 r5 r6
    rcases (show a = 0 ∨ a = 1 ∨ a = 2 ∨ a = 3 ∨ a = 4 ∨ a = 5 ∨ a = 6 ∨ a = 7 ∨ a = 8 ∨ a = 9 ∨ a = 10 ∨ a = 11 ∨ a = 12 ∨ a = 13 ∨ a = 14 ∨ a = 15 ∨ a = 16 ∨ a = 17 by omega) with rfl | rfl | rfl | rfl | rfl | rfl | rfl | rfl | rfl | rfl | rfl | rfl | rfl | rfl | rfl | rfl | rfl | rfl
    case inl =>
      replace hc : (if b = 0 then kr_o 0 [.ref (gA g2 (1, 0)), .ref (gA g2 (1, 1)), .ref (gA g2 (1, 2)), .ref (gA g2 (1, 3)), .int 0, .long 0] else none) = some c := hc
      rw [eA1 1 0 (by decide) (by decide), eA1 1 1 (by decide) (by decide), eA1 1 2 (by decide) (by decide), eA1 1 3 (by decide) (by decide)] at hc
      exact hc
    case inr.inl =>
      have hb := hb0 rfl
      rcases (show b = 0 ∨ b = 1 ∨ b = 3 ∨ (b ≠ 0 ∧ b ≠ 1 ∧ b ≠ 2 ∧ b ≠ 3) by omega) with rfl | rfl | rfl | hb9
      · rw [kc_l0] at hc ⊢
        rw [← hc]
        unfold kr_li
        rw [(eM1 0 (by decide)).1, (eM1 0 (by decide)).2]
        rfl
      · rw [kc_l1] at hc ⊢
        rw [← hc]
        unfold kr_li
        rw [(eM1 1 (by decide)).1, (eM1 1 (by decide)).2]
        rfl
      · rw [kc_l3] at hc ⊢
        rw [← hc]
        unfold kr_li
        rw [(eM1 3 (by decide)).1, (eM1 3 (by decide)).2]
        rfl
      · replace hc : (if b = 0 then _ else if b = 1 then _ else if b = 2 then _ else if b = 3 then _ else none) = some c := hc
        rw [if_neg hb9.1, if_neg hb9.2.1, if_neg hb9.2.2.1, if_neg hb9.2.2.2] at hc
        cases hc
    case inr.inr.inr.inr.inr.inr.inr.inr.inr.inr.inr.inl =>
      have hb := hbn (Or.inl rfl)
      replace hc : (if b < sN (oFresh (n + 1)) 14 0 then kr_o 2 [.ref (gA g2 (12, b)), .null] else none) = some c := hc
      show (if b < sN (oFresh n) 14 0 then kr_o 2 [.ref (gA g (12, b)), .null] else none) = some c
      rw [oFresh_14] at hc ⊢
      split at hc
      · rw [if_pos (by omega)]
        rw [eAx 12 b hb] at hc
        exact hc
      · cases hc
    case inr.inr.inr.inr.inr.inr.inr.inr.inr.inr.inr.inr.inl =>
      have hb := hbn (Or.inr rfl)
      replace hc : (if b < sN (oFresh (n + 1)) 14 0 then kr_li g2 (12, b) [] else none) = some c := hc
      show (if b < sN (oFresh n) 14 0 then kr_li g (12, b) [] else none) = some c
      rw [oFresh_14] at hc ⊢
      split at hc
      · rw [if_pos (by omega)]
        unfold kr_li at hc ⊢
        rw [(eM6 b hb).1, (eM6 b hb).2] at hc
        exact hc
      · cases hc
    all_goals (exfalso; simp [kr_cells, oFresh_N] at hc)
  · simp only [List.mem_cons, List.not_mem_nil, or_false]
    rintro e (rfl | rfl) <;> rw [kc_Z2] <;> assumption
/-- the five first things get their roles -/
theorem kr_S.begin {H : Heap} {q0 q1 q2 q3 q4 : Nat} (hd : q1 ≠ q0 ∧ q2 ≠ q0 ∧ q3 ≠ q0 ∧ q4 ≠ q0 ∧ q2 ≠ q1 ∧ q3 ≠ q1 ∧ q4 ≠ q1 ∧ q3 ≠ q2 ∧ q4 ≠ q2 ∧ q4 ≠ q3)
    (h : kr_S G (gA g00) (kr_up (kr_up (kr_up (kr_up (kr_up (fun _ => none) (20, q1) kr_l0) (20, q2) kr_l0) (20, q3) kr_l0) (20, q4) kr_l0) (20, q0) (kr_o 0 [.ref q1, .ref q2, .ref q3, .ref q4, .int 0, .long 0])) H) : ∃ g, kr_gok g ∧ gA g (0, 0) = q0 ∧ kr_S G (gA g) (kr_cells G g (oFresh 0) (fun _ => none)) H := by
  obtain ⟨d1, d2, d3, d4, d5, d6, d7, d8, d9, d10⟩ := hd
  have d34 : ∀ {a b : kr_Ro}, a ≠ b → a ≠ b := fun h => h
  have hgk := kr_gok_new g00_ok (ρ := [((0, 0), q0), ((1, 0), q1), ((1, 1), q2), ((1, 2), q3), ((1, 3), q4)]) (by simp)
  have a0 : gA (gNew g00 [((0, 0), q0), ((1, 0), q1), ((1, 1), q2), ((1, 2), q3), ((1, 3), q4)]) (0, 0) = q0 := gNew_s
  have a1 : gA (gNew g00 [((0, 0), q0), ((1, 0), q1), ((1, 1), q2), ((1, 2), q3), ((1, 3), q4)]) (1, 0) = q1 := (gNew_t (by decide)).trans gNew_s
  have a2 : gA (gNew g00 [((0, 0), q0), ((1, 0), q1), ((1, 1), q2), ((1, 2), q3), ((1, 3), q4)]) (1, 1) = q2 := (gNew_t (by decide)).trans ((gNew_t (by decide)).trans gNew_s)
  have a3 : gA (gNew g00 [((0, 0), q0), ((1, 0), q1), ((1, 1), q2), ((1, 2), q3), ((1, 3), q4)]) (1, 2) = q3 := (gNew_t (by decide)).trans ((gNew_t (by decide)).trans ((gNew_t (by decide)).trans gNew_s))
  have a4 : gA (gNew g00 [((0, 0), q0), ((1, 0), q1), ((1, 1), q2), ((1, 2), q3), ((1, 3), q4)]) (1, 3) = q4 := (gNew_t (by decide)).trans ((gNew_t (by decide)).trans ((gNew_t (by decide)).trans ((gNew_t (by decide)).trans gNew_s)))
  have eM : ∀ r, gM (gNew g00 [((0, 0), q0), ((1, 0), q1), ((1, 1), q2), ((1, 2), q3), ((1, 3), q4)]) r = 0 ∧ gC (gNew g00 [((0, 0), q0), ((1, 0), q1), ((1, 1), q2), ((1, 2), q3), ((1, 3), q4)]) r = 0 := fun r => ⟨rfl, rfl⟩
  generalize gNew g00 [((0, 0), q0), ((1, 0), q1), ((1, 1), q2), ((1, 2), q3), ((1, 3), q4)] = g2 at *
  refine ⟨g2, hgk, a0, kr_S.ren h [((0, 0), q0), ((1, 0), q1), ((1, 1), q2), ((1, 2), q3), ((1, 3), q4)] ?_ ?_ (fun r hr c hc => ?_) ?_ ((oFresh_I3 0).elem hgk.1 (fun r z => by exact fun z => by cases z))⟩
  · simp only [List.mem_cons, List.not_mem_nil, or_false]
    rintro e (rfl | rfl | rfl | rfl | rfl) e' (rfl | rfl | rfl | rfl | rfl) z <;> first | rfl | (exfalso; revert z; simp [*]; done) | (exfalso; have z := z.symm; revert z; simp [*]; done)
  · simp only [List.mem_cons, List.not_mem_nil, or_false]
    have li : ∀ b : Nat, b < 4 → kr_cells G g2 (oFresh 0) (fun _ => none) (1, b) = kr_l0 := fun b hb => by
      rcases (show b = 0 ∨ b = 1 ∨ b = 2 ∨ b = 3 by omega) with rfl | rfl | rfl | rfl
      · rw [kc_l0]
        show (some (.inr ([], gM g2 (1, 0), gC g2 (1, 0))) : Option kr_AE) = _
        rw [(eM _).1, (eM _).2]
      · rw [kc_l1]
        show (some (.inr ([], gM g2 (1, 1), gC g2 (1, 1))) : Option kr_AE) = _
        rw [(eM _).1, (eM _).2]
      · rw [kc_l2]
        show (some (.inr ([], gM g2 (1, 2), gC g2 (1, 2))) : Option kr_AE) = _
        rw [(eM _).1, (eM _).2]
      · rw [kc_l3]
        show (some (.inr ([], gM g2 (1, 3), gC g2 (1, 3))) : Option kr_AE) = _
        rw [(eM _).1, (eM _).2]
    rintro e (rfl | rfl | rfl | rfl | rfl)
    · refine ⟨?_, a0.symm⟩
      rw [kr_up_s, kc_kio, a1, a2, a3, a4]
      rfl
    · refine ⟨?_, a1.symm⟩
      rw [li 0 (by decide), kr_up_n (kr_ne20 d1), kr_up_n (kr_ne20 d7.symm), kr_up_n (kr_ne20 d6.symm), kr_up_n (kr_ne20 d5.symm), kr_up_s]
    · refine ⟨?_, a2.symm⟩
      rw [li 1 (by decide), kr_up_n (kr_ne20 d2), kr_up_n (kr_ne20 d9.symm), kr_up_n (kr_ne20 d8.symm), kr_up_s]
    · refine ⟨?_, a3.symm⟩
      rw [li 2 (by decide), kr_up_n (kr_ne20 d3), kr_up_n (kr_ne20 d10.symm), kr_up_s]
    · refine ⟨?_, a4.symm⟩
      rw [li 3 (by decide), kr_up_n (kr_ne20 d4), kr_up_s]
  · exfalso
    simp only [List.mem_cons, List.not_mem_nil, or_false, forall_eq_or_imp, forall_eq] at hr
    obtain ⟨r0, r1, r2, r3, r4⟩ := hr
    obtain ⟨a, b⟩ := r
    by_cases h18 : 18 ≤ a
    · rw [kc_Z (r := (a, b)) h18] at hc
      cases hc
    rcases (show a = 0 ∨ a = 1 ∨ a = 2 ∨ a = 3 ∨ a = 4 ∨ a = 5 ∨ a = 6 ∨ a = 7 ∨ a = 8 ∨ a = 9 ∨ a = 10 ∨ a = 11 ∨ a = 12 ∨ a = 13 ∨ a = 14 ∨ a = 15 ∨ a = 16 ∨ a = 17 by omega) with rfl | rfl | rfl | rfl | rfl | rfl | rfl | rfl | rfl | rfl | rfl | rfl | rfl | rfl | rfl | rfl | rfl | rfl
    case inl =>
      replace hc : (if b = 0 then kr_o 0 [.ref (gA g2 (1, 0)), .ref (gA g2 (1, 1)), .ref (gA g2 (1, 2)), .ref (gA g2 (1, 3)), .int 0, .long 0] else none) = some c := hc
      rw [if_neg (fun z => r0 (by rw [z]))] at hc
      cases hc
    case inr.inl =>
      have hb : b ≠ 0 ∧ b ≠ 1 ∧ b ≠ 2 ∧ b ≠ 3 := ⟨fun z => r1 (by rw [z]), fun z => r2 (by rw [z]), fun z => r3 (by rw [z]), fun z => r4 (by rw [z])⟩
      replace hc : (if b = 0 then _ else if b = 1 then _ else if b = 2 then _ else if b = 3 then _ else none) = some c := hc
      rw [if_neg hb.1, if_neg hb.2.1, if_neg hb.2.2.1, if_neg hb.2.2.2] at hc
      cases hc
    all_goals (simp [kr_cells, oFresh_N] at hc)
  · simp only [List.mem_cons, List.not_mem_nil, or_false]
    rintro e (rfl | rfl | rfl | rfl | rfl) <;> exact kc_Z2
/-- the whole constructor -/
theorem ct_X1_init (hF : kr_F G l) {q0 : Nat} : kr_T G l yX1_init (ws_ yX1_init cX1_init 2 (Option.none : Option Jvm.ClassFile.FieldType)) 9 900 [.ref q0] (kr_S G (gA g00) (kr_up (fun _ => none) (20, q0) (kr_o 0 [.null, .null, .null, .null, .int 0, .long 0]))) 22 102 (fun v H => ∃ g, (v = none ∧ kr_gok g ∧ gA g (0, 0) = q0) ∧ kr_S G (gA g) (kr_cells G g (oFresh 6) (fun _ => none)) H) kr_no := by
  refine kr_T.of (by decide +kernel) hF (by simp [Value.category]) (Nat.le_of_ble_eq_true rfl) (fun x hx X => ?_)
  rw [show Value.ref q0 = Value.ref (gA g00 (20, q0)) from rfl]
  refine kj_aload_n X dX1_init_0 rfl rfl (by first | exact ⟨some _, rfl⟩ | exact ⟨none, rfl⟩ | exact ⟨_, rfl⟩) ?_
  refine kj_objInit X q94 q95 q96 dX1_init_1 (Nat.le_of_ble_eq_true rfl) (by simp [Value.category, kr_cat]) ?_
  refine kj_aload_n X dX1_init_4 rfl rfl (by first | exact ⟨some _, rfl⟩ | exact ⟨none, rfl⟩ | exact ⟨_, rfl⟩) ?_
  refine kj_new (Pn := fun q H => kr_up (fun _ => none) (20, q0) (kr_o 0 [.null, .null, .null, .null, .int 0, .long 0]) (20, q) = none ∧ kr_S G (gA g00) (kr_up (kr_up (fun _ => none) (20, q0) (kr_o 0 [.null, .null, .null, .null, .int 0, .long 0])) (20, q) (kr_o 17 [.int 0, .null, .int 0])) H) (fs := [.int 0, .null, .int 0]) X kc_J2 q97 q98 q46 (fun j hj => by rcases (show j = 0 ∨ j = 1 ∨ j = 2 by omega) with rfl | rfl | rfl <;> rfl) dX1_init_5 (by dsimp only; omega) (by dsimp only; omega) (fun H H1 h ho a u => h.mkg (fun _ => rfl) a ho u) (fun q1 => ?_)
  refine kj_and (fun h_q1 => ?_)
  have n_q1 : q1 ≠ q0 := fun z => by rw [z, kr_up_s] at h_q1; cases h_q1
  rw [kr_up_n (kr_ne20 n_q1)] at h_q1
  rw [show Value.ref q1 = Value.ref (gA g00 (20, q1)) from rfl]
  refine kj_dup X dX1_init_8 (by first | rfl | exact kr_cat _) ?_
  refine kj_callI X 0 (ct_J2_init X.F (i := (20, q1)) rfl kr_up_s) q101 q46 q99 q100 rfl ⟨by decide, by decide, by decide +kernel⟩ dX1_init_9 rfl rfl (by first | exact Nat.le_of_ble_eq_true rfl | simp [kr_cat, Value.category]) ⟨Nat.le_of_ble_eq_true rfl, Nat.le_of_ble_eq_true rfl⟩ ⟨by dsimp only; omega, by dsimp only; omega⟩ (fun E => kjx_no) (fun v_9 => ?_)
  refine kj_and (fun e_9 => ?_)
  subst e_9
  rw [kr_up_up, kr_up_sw (kr_ne20 n_q1)]
  refine kj_putF X kc_X1 0 (by decide) q226 rfl rfl rfl rfl dX1_init_12 (by first | rfl | exact kr_nar _ _ | exact kr_narb _) (by first | rfl | exact kr_fitr _ _ | exact kr_fitb _) (Nat.le_of_ble_eq_true rfl) (fun H h => h.own kr_up_s) (fun H H1 h a u => h.upd (fs' := [.ref (gA g00 (20, q1)), .null, .null, .null, .int 0, .long 0]) kr_up_s kr_up_up a u) ?_
  refine kj_aload_n X dX1_init_15 rfl rfl (by first | exact ⟨some _, rfl⟩ | exact ⟨none, rfl⟩ | exact ⟨_, rfl⟩) ?_
  refine kj_new (Pn := fun q H => kr_up (kr_up (fun _ => none) (20, q1) kr_l0) (20, q0) (kr_o 0 [.ref (gA g00 (20, q1)), .null, .null, .null, .int 0, .long 0]) (20, q) = none ∧ kr_S G (gA g00) (kr_up (kr_up (kr_up (fun _ => none) (20, q1) kr_l0) (20, q0) (kr_o 0 [.ref (gA g00 (20, q1)), .null, .null, .null, .int 0, .long 0])) (20, q) (kr_o 17 [.int 0, .null, .int 0])) H) (fs := [.int 0, .null, .int 0]) X kc_J2 q97 q98 q46 (fun j hj => by rcases (show j = 0 ∨ j = 1 ∨ j = 2 by omega) with rfl | rfl | rfl <;> rfl) dX1_init_16 (by dsimp only; omega) (by dsimp only; omega) (fun H H1 h ho a u => h.mkg (fun _ => rfl) a ho u) (fun q2 => ?_)
  refine kj_and (fun h_q2 => ?_)
  have n_q2 : q2 ≠ q0 := fun z => by rw [z, kr_up_s] at h_q2; cases h_q2
  rw [kr_up_n (kr_ne20 n_q2)] at h_q2
  have n_q2_q1 : q2 ≠ q1 := fun z => by rw [z, kr_up_s] at h_q2; cases h_q2
  rw [show Value.ref q2 = Value.ref (gA g00 (20, q2)) from rfl]
  refine kj_dup X dX1_init_19 (by first | rfl | exact kr_cat _) ?_
  refine kj_callI X 0 (ct_J2_init X.F (i := (20, q2)) rfl kr_up_s) q101 q46 q99 q100 rfl ⟨by decide, by decide, by decide +kernel⟩ dX1_init_20 rfl rfl (by first | exact Nat.le_of_ble_eq_true rfl | simp [kr_cat, Value.category]) ⟨Nat.le_of_ble_eq_true rfl, Nat.le_of_ble_eq_true rfl⟩ ⟨by dsimp only; omega, by dsimp only; omega⟩ (fun E => kjx_no) (fun v_20 => ?_)
  refine kj_and (fun e_20 => ?_)
  subst e_20
  rw [kr_up_up, kr_up_sw (kr_ne20 n_q2)]
  refine kj_putF X kc_X1 1 (by decide) q227 rfl rfl rfl rfl dX1_init_23 (by first | rfl | exact kr_nar _ _ | exact kr_narb _) (by first | rfl | exact kr_fitr _ _ | exact kr_fitb _) (Nat.le_of_ble_eq_true rfl) (fun H h => h.own kr_up_s) (fun H H1 h a u => h.upd (fs' := [.ref (gA g00 (20, q1)), .ref (gA g00 (20, q2)), .null, .null, .int 0, .long 0]) kr_up_s kr_up_up a u) ?_
  refine kj_aload_n X dX1_init_26 rfl rfl (by first | exact ⟨some _, rfl⟩ | exact ⟨none, rfl⟩ | exact ⟨_, rfl⟩) ?_
  refine kj_new (Pn := fun q H => kr_up (kr_up (kr_up (fun _ => none) (20, q1) kr_l0) (20, q2) kr_l0) (20, q0) (kr_o 0 [.ref (gA g00 (20, q1)), .ref (gA g00 (20, q2)), .null, .null, .int 0, .long 0]) (20, q) = none ∧ kr_S G (gA g00) (kr_up (kr_up (kr_up (kr_up (fun _ => none) (20, q1) kr_l0) (20, q2) kr_l0) (20, q0) (kr_o 0 [.ref (gA g00 (20, q1)), .ref (gA g00 (20, q2)), .null, .null, .int 0, .long 0])) (20, q) (kr_o 17 [.int 0, .null, .int 0])) H) (fs := [.int 0, .null, .int 0]) X kc_J2 q97 q98 q46 (fun j hj => by rcases (show j = 0 ∨ j = 1 ∨ j = 2 by omega) with rfl | rfl | rfl <;> rfl) dX1_init_27 (by dsimp only; omega) (by dsimp only; omega) (fun H H1 h ho a u => h.mkg (fun _ => rfl) a ho u) (fun q3 => ?_)
  refine kj_and (fun h_q3 => ?_)
  have n_q3 : q3 ≠ q0 := fun z => by rw [z, kr_up_s] at h_q3; cases h_q3
  rw [kr_up_n (kr_ne20 n_q3)] at h_q3
  have n_q3_q2 : q3 ≠ q2 := fun z => by rw [z, kr_up_s] at h_q3; cases h_q3
  rw [kr_up_n (kr_ne20 n_q3_q2)] at h_q3
  have n_q3_q1 : q3 ≠ q1 := fun z => by rw [z, kr_up_s] at h_q3; cases h_q3
  rw [show Value.ref q3 = Value.ref (gA g00 (20, q3)) from rfl]
  refine kj_dup X dX1_init_30 (by first | rfl | exact kr_cat _) ?_
  refine kj_callI X 0 (ct_J2_init X.F (i := (20, q3)) rfl kr_up_s) q101 q46 q99 q100 rfl ⟨by decide, by decide, by decide +kernel⟩ dX1_init_31 rfl rfl (by first | exact Nat.le_of_ble_eq_true rfl | simp [kr_cat, Value.category]) ⟨Nat.le_of_ble_eq_true rfl, Nat.le_of_ble_eq_true rfl⟩ ⟨by dsimp only; omega, by dsimp only; omega⟩ (fun E => kjx_no) (fun v_31 => ?_)
  refine kj_and (fun e_31 => ?_)
  subst e_31
  rw [kr_up_up, kr_up_sw (kr_ne20 n_q3)]
  refine kj_putF X kc_X1 2 (by decide) q230 rfl rfl rfl rfl dX1_init_34 (by first | rfl | exact kr_nar _ _ | exact kr_narb _) (by first | rfl | exact kr_fitr _ _ | exact kr_fitb _) (Nat.le_of_ble_eq_true rfl) (fun H h => h.own kr_up_s) (fun H H1 h a u => h.upd (fs' := [.ref (gA g00 (20, q1)), .ref (gA g00 (20, q2)), .ref (gA g00 (20, q3)), .null, .int 0, .long 0]) kr_up_s kr_up_up a u) ?_
  refine kj_aload_n X dX1_init_37 rfl rfl (by first | exact ⟨some _, rfl⟩ | exact ⟨none, rfl⟩ | exact ⟨_, rfl⟩) ?_
  refine kj_new (Pn := fun q H => kr_up (kr_up (kr_up (kr_up (fun _ => none) (20, q1) kr_l0) (20, q2) kr_l0) (20, q3) kr_l0) (20, q0) (kr_o 0 [.ref (gA g00 (20, q1)), .ref (gA g00 (20, q2)), .ref (gA g00 (20, q3)), .null, .int 0, .long 0]) (20, q) = none ∧ kr_S G (gA g00) (kr_up (kr_up (kr_up (kr_up (kr_up (fun _ => none) (20, q1) kr_l0) (20, q2) kr_l0) (20, q3) kr_l0) (20, q0) (kr_o 0 [.ref (gA g00 (20, q1)), .ref (gA g00 (20, q2)), .ref (gA g00 (20, q3)), .null, .int 0, .long 0])) (20, q) (kr_o 17 [.int 0, .null, .int 0])) H) (fs := [.int 0, .null, .int 0]) X kc_J2 q97 q98 q46 (fun j hj => by rcases (show j = 0 ∨ j = 1 ∨ j = 2 by omega) with rfl | rfl | rfl <;> rfl) dX1_init_38 (by dsimp only; omega) (by dsimp only; omega) (fun H H1 h ho a u => h.mkg (fun _ => rfl) a ho u) (fun q4 => ?_)
  refine kj_and (fun h_q4 => ?_)
  have n_q4 : q4 ≠ q0 := fun z => by rw [z, kr_up_s] at h_q4; cases h_q4
  rw [kr_up_n (kr_ne20 n_q4)] at h_q4
  have n_q4_q3 : q4 ≠ q3 := fun z => by rw [z, kr_up_s] at h_q4; cases h_q4
  rw [kr_up_n (kr_ne20 n_q4_q3)] at h_q4
  have n_q4_q2 : q4 ≠ q2 := fun z => by rw [z, kr_up_s] at h_q4; cases h_q4
  rw [kr_up_n (kr_ne20 n_q4_q2)] at h_q4
  have n_q4_q1 : q4 ≠ q1 := fun z => by rw [z, kr_up_s] at h_q4; cases h_q4
  rw [show Value.ref q4 = Value.ref (gA g00 (20, q4)) from rfl]
  refine kj_dup X dX1_init_41 (by first | rfl | exact kr_cat _) ?_
  refine kj_callI X 0 (ct_J2_init X.F (i := (20, q4)) rfl kr_up_s) q101 q46 q99 q100 rfl ⟨by decide, by decide, by decide +kernel⟩ dX1_init_42 rfl rfl (by first | exact Nat.le_of_ble_eq_true rfl | simp [kr_cat, Value.category]) ⟨Nat.le_of_ble_eq_true rfl, Nat.le_of_ble_eq_true rfl⟩ ⟨by dsimp only; omega, by dsimp only; omega⟩ (fun E => kjx_no) (fun v_42 => ?_)
  refine kj_and (fun e_42 => ?_)
  subst e_42
  rw [kr_up_up, kr_up_sw (kr_ne20 n_q4)]
  refine kj_putF X kc_X1 3 (by decide) q231 rfl rfl rfl rfl dX1_init_45 (by first | rfl | exact kr_nar _ _ | exact kr_narb _) (by first | rfl | exact kr_fitr _ _ | exact kr_fitb _) (Nat.le_of_ble_eq_true rfl) (fun H h => h.own kr_up_s) (fun H H1 h a u => h.upd (fs' := [.ref (gA g00 (20, q1)), .ref (gA g00 (20, q2)), .ref (gA g00 (20, q3)), .ref (gA g00 (20, q4)), .int 0, .long 0]) kr_up_s kr_up_up a u) ?_
  refine kj_P (P' := fun H => ∃ g, (kr_gok g ∧ gA g (0, 0) = q0) ∧ kr_S G (gA g) (kr_cells G g (oFresh 0) (fun _ => none)) H) (fun H h => ?_) ?_
  · obtain ⟨g, b1, b2, b3⟩ := kr_S.begin ⟨n_q1, n_q2, n_q3, n_q4, n_q2_q1, n_q3_q1, n_q4_q1, n_q3_q2, n_q4_q2, n_q4_q3⟩ h
    exact ⟨g, ⟨b1, b2⟩, b3⟩
  refine kj_open (fun g hg => ?_)
  obtain ⟨hg, hg0⟩ := hg
  rw [show Value.ref (gA g00 (20, q0)) = Value.ref (gA g (0, 0)) from by rw [hg0]; rfl]
  refine kj_iconst (v := 0) X dX1_init_48 (by decide) ?_
  refine kj_istore_n (lv' := [_, _]) X dX1_init_49 rfl (by decide) (by intro w h _; cases h <;> first | rfl | exact kr_cat _) rfl ?_
  have loop : ∀ m n g' cs ss, n + m = 6 → kr_gsm [1, 11, 12] g g' → kr_gok g' → cs + 3 * m ≤ 22 → ss + 15 * m ≤ 102 → (n ≤ 9 → True) → kr_J G x 2 (kr_Q G x 22 102 (fun v H => ∃ g, (v = none ∧ kr_gok g ∧ gA g (0, 0) = q0) ∧ kr_S G (gA g) (kr_cells G g (oFresh 6) (fun _ => none)) H) kr_no) (kr_S G (gA g') (kr_cells G g' (oFresh n) (fun _ => none))) cs ss 50 [some (.ref (gA g (0, 0))), some (.int (nI n))] [] := by
    intro m
    induction m with
    | zero =>
      intro n g' cs ss hn hs hok h1 h2 _
      obtain rfl : n = 6 := by omega
      have e0 : gA g' (0, 0) = gA g (0, 0) := (hs (0, 0) (by decide)).1
      refine kj_iload_n X dX1_init_50 rfl rfl ?_
      refine kj_bipush (v := 6) X dX1_init_51 (by decide) ?_
      refine kj_icmp_ge X 79 dX1_init_53 (by decide) (fun c_53 => ?_) (fun c_53 => ?_)
      · exact kj_vret X dX1_init_79 (by omega) (by omega) (fun H h => ⟨g', ⟨rfl, hok, e0.trans hg0⟩, h⟩)
      · exact absurd (by decide) c_53
    | succ m ih =>
      intro n g' cs ss hn hs hok h1 h2 _
      have e0 : gA g' (0, 0) = gA g (0, 0) := (hs (0, 0) (by decide)).1
      rw [← e0]
      have hl2 : ∀ Z, kr_cells G g' (oFresh n) Z (1, 2) = some (.inr ((List.range n).map (fun i => gA g' (11, i)), gM g' (1, 2), gC g' (1, 2))) := fun Z => by
        rw [kc_l2, oFresh_14]
      refine kj_pure (fun H h => h.fits (hl2 _)) (fun hfit => ?_)
      rw [List.length_map, List.length_range] at hfit
      obtain ⟨s1, s2, s3⟩ := kr_short2 (r := (1, 2)) (xs := (List.range n).map fun i => gA g' (11, i)) hok (by rw [List.length_map, List.length_range]; omega) (by rw [List.length_map, List.length_range]; exact hfit.1)
      refine kj_iload_n X dX1_init_50 rfl rfl ?_
      refine kj_bipush (v := 6) X dX1_init_51 (by decide) ?_
      refine kj_icmp_ge X 79 dX1_init_53 (by decide) (fun c_53 => ?_) (fun c_53 => ?_)
      · exact absurd c_53 (nI_ge (b := 6) (by omega) (by decide))
      refine kj_aload_n X dX1_init_56 rfl rfl (by first | exact ⟨some _, rfl⟩ | exact ⟨none, rfl⟩ | exact ⟨_, rfl⟩) ?_
      refine kj_get X kc_X1 2 (by decide) q230 (Or.inl rfl) dX1_init_57 (fun H h => h.own (kc_kio)) rfl ?_
      refine kj_new (Pn := fun q H => (fun _ => none) (20, q) = none ∧ kr_S G (gA g') (kr_cells G g' (oFresh n) (kr_up (fun _ => none) (20, q) (kr_o 2 [.null, .null]))) H) (fs := [.null, .null]) X kc_X2 q126 q127 q47 (fun j hj => by rcases (show j = 0 ∨ j = 1 by omega) with rfl | rfl <;> rfl) dX1_init_60 (by first | omega | (dsimp only; omega)) (by first | omega | (dsimp only; omega)) (fun H H1 h ho a u => h.mk2 hok a ho u) (fun q_60 => ?_)
      refine kj_and (fun h_q_60 => ?_)
      rw [show (Value.ref q_60) = Value.ref (gA g' (20, q_60)) from by rw [(hok).2.2 q_60]]
      refine kj_dup X dX1_init_63 (by first | rfl | exact kr_cat _) ?_
      have hzz : kr_up (fun _ => none) (20, q_60) (kr_o 2 [.null, .null]) (20, q_60) = kr_o 2 [.null, .null] := kr_up_s
      refine kj_callIN X 0 (ct_X2_init X.F hok hzz) q130 q47 q128 q129 rfl ⟨by decide, by decide, by decide +kernel⟩ dX1_init_64 rfl rfl (by first | exact Nat.le_of_ble_eq_true rfl | simp [kr_cat, Value.category]) ⟨Nat.le_of_ble_eq_true rfl, Nat.le_of_ble_eq_true rfl⟩ ⟨by dsimp only; omega, by dsimp only; omega⟩ (fun E => kjx_no) (fun v_64 => ?_)
      refine kj_open (fun q1 ha => ?_)
      obtain ⟨hv, b1⟩ := ha
      subst hv
      have n1 := kr_new20 hzz (fun z => by cases z) b1
      rw [kr_up_abs (kr_ne20 n1)]
      have hob : kr_obj (gA g') (kr_cells G g' (oFresh n) (kr_up (kr_up (fun _ => none) (20, q1) kr_l0) (20, q_60) (kr_o 2 [.ref q1, .null]))) (gA g' (20, q_60)) := ⟨(20, q_60), 2, _, (by rw [kc_Z2, kr_up_s]), rfl, (by show (20 : Nat) ≠ 40; decide), by decide⟩
      have hc6 : gC g' (1, 2) ≤ 600 := by rcases hok.2.1 (1, 2) with h | h <;> omega
      refine kj_callF X 1 (ct_J2_add X.F hok.1 (hl2 _) hob hc6) q145 q149 q151 q46 q153 q147 q146 q152 q150 q148 ⟨by decide, by decide, by decide +kernel⟩ dX1_init_67 rfl rfl (by first | exact Nat.le_of_ble_eq_true rfl | simp [kr_cat, Value.category]) ⟨Nat.le_of_ble_eq_true rfl, Nat.le_of_ble_eq_true rfl⟩ ⟨by dsimp only; omega, by dsimp only; omega⟩ kc_J2.1 (fun H h => h.list (hl2 _)) (fun E => kjx_no) (fun v_67 => ?_)
      refine kj_and (fun e_67 => ?_)
      subst e_67
      refine kj_pop X dX1_init_72 (by first | rfl | exact kr_cat _) ?_
      refine kj_P (P' := fun H => kr_Hx G [1, 11, 12] g' (oFresh (n + 1)) (fun _ => none) H) (fun H h => ?_) ?_
      · rw [hok.2.2] at h
        exact kr_S.newDevice hok (Or.inr s3) (fun r z => by exact fun z => by cases z) rfl rfl n1 h
      refine kj_open (fun g2 hg2 => ?_)
      rw [e0]
      refine kj_iinc (lv' := [_, _]) (w := nI (n + 1)) X dX1_init_73 (by decide) rfl (by intro w h _; cases h <;> first | rfl | exact kr_cat _) (nI_1 n) rfl ?_
      refine kj_goto X 50 dX1_init_76 (by decide) ?_
      exact ih (n + 1) g2 _ _ (by omega) (hs.tr hg2.1 (fun _ z => z) (fun _ z => z)) hg2.2 (by omega) (by omega) (fun _ => trivial)
  refine loop 6 0 g _ _ (by omega) kr_gsm.rf hg ?_ ?_ (fun _ => trivial)
  · omega
  · omega
end
