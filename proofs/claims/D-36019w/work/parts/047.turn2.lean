/-! TURN 2: the walk -/
set_option maxRecDepth 100000
def fOver (S : kr_St) (f : Nat) : Bool := decide ((sL S 4 f).length ≤ (sI S 5 f).toNatClampNeg)
/-- lists that are over are taken off the pile -/
def oPop (S : kr_St) (p : Nat) : Nat → kr_St
  | 0 => S
  | n + 1 => if 1 < sN S 5 p ∧ fOver S (kt_top S p) = true then oPop (uN S 5 p (sN S 5 p - 1)) p n else S
/-- one line, or a list that begins anew -/
def oLine1 (S : kr_St) (p k : Nat) : kr_St × Bool :=
  if fOver S (kt_top S p) then (oFrame (oDepth (uD S (sD S + 1)) p 1) (4 * p + 0) (sN S 11 (4 * p + 0)), true)
  else oAct (uI (uD S (sD S + 1)) 5 (kt_top S p) (sI S 5 (kt_top S p) + 1)) p k ((sL S 4 (kt_top S p))[(sI S 5 (kt_top S p)).toNatClampNeg]?.getD 0)
def oLine (S : kr_St) (p k : Nat) : kr_St × Bool := oLine1 (oPop S p 4) p k
def oGo (S : kr_St) (p k : Nat) : Nat → Bool → kr_St
  | 0, _ => S
  | n + 1, b => if b then oGo (oLine S p k).1 p k n (oLine S p k).2 else S
def oTurn (S : kr_St) (p k : Nat) : kr_St := if 0 < sI S 2 p then uI S 2 p (sI S 2 p - 1) else oGo S p k 8 (decide (sN S 8 p = 0))
section
variable {G : kr_G} {l : Launch} {g g' : kr_Gh} {S S' : kr_St} {Z Z' : kr_Ro → Option kr_AE}
theorem oPop_V (h : kr_V S) (p : Nat) : ∀ n, kr_V (oPop S p n) := fun n => by
  induction n generalizing S with
  | zero => exact h
  | succ n ih =>
    show kr_V (if _ then _ else _)
    split
    · rename_i hc
      exact ih (h.pop hc.1)
    · exact h
theorem oPop_N (p : Nat) {a b : Nat} (ha : a ≠ 5) : ∀ n (S : kr_St), sN (oPop S p n) a b = sN S a b
  | 0, _ => rfl
  | n + 1, S => by
    show sN (if _ then _ else _) a b = _
    split
    · rw [oPop_N p ha n, sN_uN, if_neg (fun z => ha z.1)]
    · rfl
theorem oPop_end (p : Nat) : ∀ n (S : kr_St), sN S 5 p ≤ n → ¬ (1 < sN (oPop S p n) 5 p ∧ fOver (oPop S p n) (kt_top (oPop S p n) p) = true)
  | 0, S, h => fun z => by
    have : 1 < sN S 5 p := z.1
    omega
  | n + 1, S, h => by
    show ¬ (1 < sN (if _ then _ else _) 5 p ∧ fOver (if _ then _ else _) (kt_top (if _ then _ else _) p) = true)
    split
    · rename_i hc
      exact oPop_end p n _ (by rw [sN_uN, if_pos ⟨rfl, rfl⟩]; omega)
    · rename_i hc
      exact hc
/-- the inner loop -/
theorem kj_pops {rm : Room} {x : kr_X} (X : kr_C G x yX1_turn cX1_turn 6 none rm []) {p k : Nat} (hR : 12 ≤ rm.frames ∧ 3400 ≤ rm.locals) (hZ : ∀ r z, Z r ≠ some (.inr z)) {Q : State → Prop} {cs ss : Nat} {v3 v4 v5 : Option Value} (hroom : cs ≤ rm.cells ∧ ss ≤ rm.slots) : ∀ (n : Nat) (S : kr_St) (g : kr_Gh), kr_V S → sN S 15 p = 1 → kr_gok g → sN S 5 p ≤ n →
    (∀ g', gA g' = gA g → kr_gsm [8] g g' → kr_gok g' → kr_J G x 6 Q (kr_S G (gA g') (kr_cells G g' (oPop S p n) Z)) cs ss 92 [some (.ref (gA g (0, 0))), some (.ref (gA g (7, p))), some (.ref (gA g (5, k))), v3, v4, v5] []) →
    kr_J G x 6 Q (kr_S G (gA g) (kr_cells G g S Z)) cs ss 45 [some (.ref (gA g (0, 0))), some (.ref (gA g (7, p))), some (.ref (gA g (5, k))), v3, v4, v5] [] := by
  have r1 := hR.1
  have r2 := hR.2
  have r3 := hroom.1
  have r4 := hroom.2
  intro n
  induction n with
  | zero =>
    intro S g hV hp hg hn kk
    have := (hV.2.2.2.2.1 p hp).2.1.1
    omega
  | succ n ih =>
    intro S g hV hp hg hn kk
    obtain ⟨p1, ⟨p2, p3⟩, -, -, p7⟩ := hV.2.2.2.2.1 p hp
    have eo : oPop S p (n + 1) = if 1 < sN S 5 p ∧ fOver S (kt_top S p) = true then oPop (uN S 5 p (sN S 5 p - 1)) p n else S := rfl
    rw [eo] at kk
    refine kj_aload_n X dX1_turn_45 rfl rfl (by first | exact ⟨some _, rfl⟩ | exact ⟨none, rfl⟩ | exact ⟨_, rfl⟩) ?_
    refine kj_getN X kc_X16 1 (by decide) q1141 rfl dX1_turn_46 (fun H h => h.own (kc_7 hp)) rfl ?_
    refine kj_callF X 0 (ct_J2_size X.F (kc_8 hp)) q478 q481 q483 q46 q485 q480 q479 q484 q482 q148 ⟨by decide, by decide, by decide +kernel⟩ dX1_turn_49 rfl rfl (by first | exact Nat.le_of_ble_eq_true rfl | simp [kr_cat, Value.category]) ⟨by omega, by omega⟩ ⟨by omega, by omega⟩ kc_J2.1 (fun H h => h.list (kc_8 hp)) (fun E => kjx_no) (fun v_49 => ?_)
    refine kj_and (fun e_49 => ?_)
    subst e_49
    rw [List.length_map, List.length_range]
    refine kj_iconst (v := 1) X dX1_turn_54 (by decide) ?_
    refine kj_icmp_le X 92 dX1_turn_55 (by decide) (fun c_55 => ?_) (fun c_55 => ?_)
    · rw [if_neg (fun z => absurd c_55 (by rw [Int32.not_le]; exact nI_lt (a := 1) z.1 (by omega)))] at kk
      exact kk g rfl kr_gsm.rf hg
    have h1 : 1 < sN S 5 p := Nat.not_le.mp fun z => c_55 (nI_le (b := 1) z (by decide))
    obtain ⟨f1, f2, f3, m, f4, f5⟩ := p7 (sN S 5 p - 1) (by omega)
    refine kj_aload_n X dX1_turn_58 rfl rfl (by first | exact ⟨some _, rfl⟩ | exact ⟨none, rfl⟩ | exact ⟨_, rfl⟩) ?_
    refine kj_callV X 0 (ct_X16_top X.F hp p2 p3) (lw_V q1271 q1272 q1273 q84 q1274) ⟨rfl, by decide, by decide, by decide +kernel⟩ dX1_turn_59 rfl rfl (by first | exact Nat.le_of_ble_eq_true rfl | simp [kr_cat, Value.category]) ⟨by omega, by omega⟩ ⟨by omega, by omega⟩ kc_X16.1 (fun H h => h.rc (kc_7 hp)) (fun E => kjx_no) (fun v_59 => ?_)
    refine kj_and (fun e_59 => ?_)
    subst e_59
    refine kj_callV X 0 (ct_X17_isOver X.F (d := sN S 5 p - 1) hp (by omega) (by omega) f5 (by omega) (by omega)) (lw_V q1304 q1305 q1306 q85 q1307) ⟨rfl, by decide, by decide, by decide +kernel⟩ dX1_turn_62 rfl rfl (by first | exact Nat.le_of_ble_eq_true rfl | simp [kr_cat, Value.category]) ⟨by omega, by omega⟩ ⟨by omega, by omega⟩ kc_X17.1 (fun H h => h.rc (kc_9 (d := sN S 5 p - 1) hp (by omega) (by omega))) (fun E => kjx_no) (fun v_62 => ?_)
    refine kj_and (fun e_62 => ?_)
    subst e_62
    have efo : fOver S (kt_top S p) = decide ((sL S 4 (4 * p + (sN S 5 p - 1))).length ≤ m) := by
      unfold fOver kt_top
      rw [f5, nI_clamp (by omega)]
    rw [← efo]
    cases ho : fOver S (kt_top S p) with
    | false =>
      rw [if_neg (fun z => by rw [ho] at z; exact absurd z.2 (by decide))] at kk
      refine kj_if_eq X 92 dX1_turn_65 (by decide) (fun c_65 => ?_) (fun c_65 => ?_)
      · exact kk g rfl kr_gsm.rf hg
      · exact absurd rfl c_65
    | true =>
      rw [if_pos ⟨h1, ho⟩] at kk
      refine kj_if_eq X 92 dX1_turn_65 (by decide) (fun c_65 => ?_) (fun c_65 => ?_)
      · exact absurd c_65 (by decide)
      refine kj_aload_n X dX1_turn_68 rfl rfl (by first | exact ⟨some _, rfl⟩ | exact ⟨none, rfl⟩ | exact ⟨_, rfl⟩) ?_
      refine kj_getN X kc_X16 1 (by decide) q1141 rfl dX1_turn_69 (fun H h => h.own (kc_7 hp)) rfl ?_
      refine kj_aload_n X dX1_turn_72 rfl rfl (by first | exact ⟨some _, rfl⟩ | exact ⟨none, rfl⟩ | exact ⟨_, rfl⟩) ?_
      refine kj_getN X kc_X16 1 (by decide) q1141 rfl dX1_turn_73 (fun H h => h.own (kc_7 hp)) rfl ?_
      refine kj_callF X 0 (ct_J2_size X.F (kc_8 hp)) q478 q481 q483 q46 q485 q480 q479 q484 q482 q148 ⟨by decide, by decide, by decide +kernel⟩ dX1_turn_76 rfl rfl (by first | exact Nat.le_of_ble_eq_true rfl | simp [kr_cat, Value.category]) ⟨by omega, by omega⟩ ⟨by omega, by omega⟩ kc_J2.1 (fun H h => h.list (kc_8 hp)) (fun E => kjx_no) (fun v_76 => ?_)
      refine kj_and (fun e_76 => ?_)
      subst e_76
      rw [List.length_map, List.length_range]
      refine kj_iconst (v := 1) X dX1_turn_81 (by decide) ?_
      refine kj_isub X dX1_turn_82 ?_
      rw [kr_dec (by omega)]
      refine kj_callF X 1 (ct_J2_remove X.F (kc_8 hp) (k := sN S 5 p - 1) (o := gA g (9, 4 * p + (sN S 5 p - 1))) (by rw [List.getElem?_map, List.getElem?_range (by omega)]; rfl)) q978 q981 q983 q46 q985 q980 q979 q984 q982 q148 ⟨by decide, by decide, by decide +kernel⟩ dX1_turn_83 rfl rfl (by first | exact Nat.le_of_ble_eq_true rfl | simp [kr_cat, Value.category]) ⟨by omega, by omega⟩ ⟨by omega, by omega⟩ kc_J2.1 (fun H h => h.list (kc_8 hp)) (fun E => kjx_no) (fun v_83 => ?_)
      refine kj_and (fun e_83 => ?_)
      subst e_83
      refine kj_P (P' := kr_S G (gA (gL g (8, p) (gM g (8, p) + 1) 10)) (kr_cells G (gL g (8, p) (gM g (8, p) + 1) 10) (uN S 5 p (sN S 5 p - 1)) Z)) (fun H h => kr_S.popf hp h1 hV.2.1 hg hZ h) ?_
      refine kj_pop X dX1_turn_88 (by first | rfl | exact kr_cat _) ?_
      refine kj_goto X 45 dX1_turn_89 (by decide) ?_
      refine ih (uN S 5 p (sN S 5 p - 1)) (gL g (8, p) (gM g (8, p) + 1) 10) (hV.pop h1) hp (kr_gok_gL hg (Or.inr ⟨by decide, by decide⟩)) (by rw [sN_uN, if_pos ⟨rfl, rfl⟩]; omega) (fun g' e1 e2 e3 => ?_)
      exact kk g' e1 ((kr_gsm_gL (r := (8, p))).tr e2 (by simp) (by simp)) e3
end
