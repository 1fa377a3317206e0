/-! java.util.ArrayList, second part: growing and adding -/
set_option maxRecDepth 100000
def kr_tmp (ad : kr_Ro → Nat) : Prop := ∀ q : Nat, ad (40, q) = q ∧ ad (17, q) = q
abbrev kr_row (G : kr_G) (N : Nat) (xs : List Nat) : kr_AE := .inl (.inl (.inl (kg_A G 6, N, .inr (.inr (.inr (.inr (fun j => xs[j]?)))))))
theorem kr_castO : ∀ c, c < 17 → ∃ (C : String) (T : u_T) (N : Nat), kr_cl[c]? = some (C, T, N) ∧ Cond.castable C "java/lang/Object" ∈ lw_tbl := by
  intro c hc
  rcases (show c = 0 ∨ c = 1 ∨ c = 2 ∨ c = 3 ∨ c = 4 ∨ c = 5 ∨ c = 6 ∨ c = 7 ∨ c = 8 ∨ c = 9 ∨ c = 10 ∨ c = 11 ∨ c = 12 ∨ c = 13 ∨ c = 14 ∨ c = 15 ∨ c = 16 by omega) with e | e | e | e | e | e | e | e | e | e | e | e | e | e | e | e | e <;> subst e
  · exact ⟨_, _, _, rfl, q1896⟩
  · exact ⟨_, _, _, rfl, q1899⟩
  · exact ⟨_, _, _, rfl, q1898⟩
  · exact ⟨_, _, _, rfl, q1901⟩
  · exact ⟨_, _, _, rfl, q1912⟩
  · exact ⟨_, _, _, rfl, q1911⟩
  · exact ⟨_, _, _, rfl, q1910⟩
  · exact ⟨_, _, _, rfl, q1913⟩
  · exact ⟨_, _, _, rfl, q1887⟩
  · exact ⟨_, _, _, rfl, q1888⟩
  · exact ⟨_, _, _, rfl, q1889⟩
  · exact ⟨_, _, _, rfl, q1890⟩
  · exact ⟨_, _, _, rfl, q1891⟩
  · exact ⟨_, _, _, rfl, q1892⟩
  · exact ⟨_, _, _, rfl, q1893⟩
  · exact ⟨_, _, _, rfl, q1894⟩
  · exact ⟨_, _, _, rfl, q1895⟩
section
variable {G : kr_G} {l : Launch} {ad bk : kr_Ro → Nat} {σ : kr_Ro → Option kr_AE} {i : kr_Ro} {z : List Nat × Int32 × Nat} {H H1 : Heap} {a : Nat}
theorem kr_obj.ok (h : kr_obj ad σ a) (hS : kr_H G (Sum.elim ad bk) (kr_exp G σ bk) H) : kr_ok G "java/lang/Object" a H := by
  obtain ⟨j, c, fs, h1, h2, -, h4⟩ := h
  obtain ⟨C, T, N, g1, g2⟩ := kr_castO c h4
  have h5 := (hS.own (i := .inl j) (kr_exp_c h1)).1
  exact ⟨c, C, T, N, fs, g1, by rw [← h2]; exact h5, Or.inr g2⟩
theorem kr_exp_mc {mc : Int32} (h : σ i = some (.inr z)) : kr_exp G (kr_up σ i (some (.inr (z.1, mc, z.2.2)))) bk = kr_up (kr_exp G σ bk) (.inl i) (some (kr_lo G (bk i) (z.1, mc, z.2.2))) := by
  funext r
  cases r with
  | inl j =>
    by_cases hj : j = i
    · subst hj
      simp [kr_exp, kr_up]
    · simp [kr_exp, kr_up, hj]
  | inr j =>
    by_cases hj : j = i
    · subst hj
      simp [kr_exp, kr_up, h, kr_la]
    · simp [kr_exp, kr_up, hj]
theorem kr_SB.mc (h : kr_SB G ad bk σ H) (hi : σ i = some (.inr z)) {mc : Int32} (ha : va_at (kg_D G) kr_cl (ad i, .inr (17, [.int mc, .ref (if z.2.2 = 0 then kg_e0 G else bk i), .int (nI z.1.length)])) H1) (u : kr_upd H H1 (ad i)) : kr_SB G ad bk (kr_up σ i (some (.inr (z.1, mc, z.2.2)))) H1 := by
  refine ⟨?_, h.2.upl (h.2 i z hi)⟩
  rw [kr_exp_mc hi]
  exact h.1.put (i := .inl i) (kr_lo G (bk i) (z.1, mc, z.2.2)) (kr_exp_l hi) ha u
theorem kr_SB.lt (h : kr_SB G ad bk σ H) (hi : σ i ≠ none) : ad i < H.size := h.1.lt (i := .inl i) (kr_exp_not hi)
theorem kr_SB.free (h : kr_SB G ad bk σ H) (hi : ad i = H.size) : σ i = none := by
  cases e : σ i with
  | none => rfl
  | some w =>
    have := h.lt (i := i) (by rw [e]; exact fun z => by cases z)
    omega
theorem kr_SB.own (h : kr_SB G ad bk σ H) {e : va_E} (hi : σ i = some (.inl (.inl e))) : kr_own G (ad i) e H := h.1.own (i := .inl i) (kr_exp_c hi)
theorem kr_SB.puta (h : kr_SB G ad bk σ H) {w w' : ClassId × vp_A} (hi : σ i = some (.inl (.inl (.inl w)))) (ha : va_at (kg_D G) kr_cl (ad i, .inl w') H1) (u : kr_upd H H1 (ad i)) : kr_SB G ad bk (kr_up σ i (some (.inl (.inl (.inl w'))))) H1 := by
  refine ⟨?_, h.2.up⟩
  rw [kr_exp_up hi]
  exact h.1.put (i := .inl i) _ (kr_exp_c hi) ha u
theorem kr_SB.new (h : kr_SB G ad bk σ H) {e : kr_E} (hai : ad i = H.size) (ha : kr_is G H.size e H1) (ho : kr_old G H.size) (u : kr_new H H1) : kr_SB G ad bk (kr_up σ i (some (.inl e))) H1 := by
  have hi := h.free hai
  refine ⟨?_, h.2.up⟩
  rw [kr_exp_up0 hi]
  exact h.1.new (i := .inl i) e (by simp [kr_exp, hi]) (fun j hj => rfl) hai ha ho u
theorem kr_SB.elem_up (he : kr_elem ad σ) (hi : σ i = none) {e : kr_E} : kr_elem ad (kr_up σ i (some (.inl e))) := he.up (fun c fs q => by rw [hi] at q; cases q)
/-- a list out of its object and its row -/
theorem kr_SB.two {τ : kr_Ro ⊕ kr_Ro → Option kr_E} (hf : kr_fit σ) (h : kr_H G (Sum.elim ad bk) τ H) {z' : List Nat × Int32 × Nat} (hz : z'.1.length ≤ z'.2.2 ∧ z'.2.2 ≤ 1000) (h0 : z'.2.2 ≠ 0) (h1 : τ (.inl i) = some (kr_lo G (bk i) z')) (h2 : τ (.inr i) = some (kr_la G z')) (h3 : ∀ r, r ≠ .inl i → r ≠ .inr i → τ r = kr_exp G σ bk r) : kr_SB G ad bk (kr_up σ i (some (.inr z'))) H := by
  refine ⟨?_, hf.upl hz⟩
  have e : kr_exp G (kr_up σ i (some (.inr z'))) bk = τ := by
    funext r
    cases r with
    | inl j =>
      by_cases hj : j = i
      · subst hj
        rw [h1]
        simp [kr_exp, kr_up]
      · rw [h3 _ (by simpa using hj) (by simp)]
        simp [kr_exp, kr_up, hj]
    | inr j =>
      by_cases hj : j = i
      · subst hj
        rw [h2]
        simp [kr_exp, kr_up, h0]
      · rw [h3 _ (by simp) (by simpa using hj)]
        simp [kr_exp, kr_up, hj]
  rw [e]
  exact h
/-- a list gets another row -/
theorem kr_SB.rebk {τ : kr_Ro ⊕ kr_Ro → Option kr_E} (hf : kr_fit σ) (h : kr_H G (Sum.elim ad bk) τ H) {q : Nat} {z' : List Nat × Int32 × Nat} (hz : z'.1.length ≤ z'.2.2 ∧ z'.2.2 ≤ 1000) (h0 : z'.2.2 ≠ 0) (hq : ad (40, q) = q) (hi : i ≠ (40, q)) (hn : σ (40, q) = none) (h1 : τ (.inl i) = some (kr_lo G q z')) (h2 : τ (.inl (40, q)) = some (kr_la G z')) (h3 : ∀ r, r ≠ .inl i → r ≠ .inr i → r ≠ .inl (40, q) → τ r = kr_exp G σ bk r) : kr_SB G ad (kr_up bk i q) (kr_up σ i (some (.inr z'))) H := by
  refine ⟨?_, hf.upl hz⟩
  have hq0 : kr_exp G (kr_up σ i (some (.inr z'))) (kr_up bk i q) (.inl (40, q)) = none := by
    simp [kr_exp, kr_up_n hi.symm, hn]
  refine h.map (fun r => if r = .inr i then .inl (40, q) else r) (fun r e hr => ?_) (fun r r' hr hr' e => ?_)
  · cases r with
    | inl j =>
      by_cases hj : j = i
      · subst hj
        simp only [reduceCtorEq, if_false, Sum.elim_inl, and_true]
        rw [h1, ← hr]
        simp [kr_exp, kr_up]
      · simp only [reduceCtorEq, if_false, Sum.elim_inl, and_true]
        by_cases hj2 : j = (40, q)
        · rw [hj2, hq0] at hr
          cases hr
        · rw [h3 _ (by simpa using hj) (by simp) (by simpa using hj2), ← hr]
          simp [kr_exp, kr_up, hj]
    | inr j =>
      by_cases hj : j = i
      · subst hj
        simp only [if_true, Sum.elim_inl, Sum.elim_inr]
        refine ⟨?_, by rw [hq, kr_up_s]⟩
        rw [h2, ← hr]
        simp [kr_exp, kr_up, h0]
      · have hj' : (Sum.inr j : kr_Ro ⊕ kr_Ro) ≠ .inr i := by simpa using hj
        simp only [if_neg hj', Sum.elim_inr]
        refine ⟨?_, by rw [kr_up_n hj]⟩
        rw [h3 _ (by simp) hj' (by simp), ← hr]
        simp [kr_exp, kr_up, hj]
  · by_cases e1 : r = .inr i
    · by_cases e2 : r' = .inr i
      · rw [e1, e2]
      · rw [if_pos e1, if_neg e2] at e
        rw [← e] at hr'
        exact absurd hq0 hr'
    · by_cases e2 : r' = .inr i
      · rw [if_neg e1, if_pos e2] at e
        rw [e] at hr
        exact absurd hq0 hr
      · rwa [if_neg e1, if_neg e2] at e
theorem kr_minI {a b : Nat} (ha : a < 2 ^ 31) (hb : b < 2 ^ 31) : (if nI b < nI a then nI b else nI a) = nI (min a b) := by
  by_cases h : b < a
  · rw [if_pos (nI_lt h ha), Nat.min_eq_right (by omega)]
  · rw [if_neg (nI_nlt (by omega) hb), Nat.min_eq_left (by omega)]
theorem kr_maxI {a b : Nat} (ha : a < 2 ^ 31) (hb : b < 2 ^ 31) : (if nI a < nI b then nI b else nI a) = nI (max a b) := by
  by_cases h : a < b
  · rw [if_pos (nI_lt h hb), Nat.max_eq_right (by omega)]
  · rw [if_neg (nI_nlt (by omega) ha), Nat.max_eq_left (by omega)]
theorem ct_J5_copyOf_2 (hF : kr_F G l) (hT : kr_tmp ad) (he : kr_elem ad σ) (hi : σ i = some (.inr z)) (h0 : z.2.2 ≠ 0) {m mi : Nat} (hm : z.1.length ≤ m) (hm2 : m ≤ 1000) (hmi : ∀ s : State, (kg_s G).WarmedH s.vm → va_Mi "[Ljava/lang/Object;" mi s) : kr_T G l yJ5_copyOf_2 (ws_ yJ5_copyOf_2 cJ5_copyOf_2 4 (Option.some (Jvm.ClassFile.FieldType.array (Jvm.ClassFile.FieldType.object "java/lang/Object")))) 2 100 [.ref (bk i), .int (nI m), .ref mi] (kr_SB G ad bk σ) 1 m (fun v H => ∃ q, (v = some (.ref q) ∧ σ (40, q) = none) ∧ kr_SB G ad bk (kr_up σ (40, q) (some (kr_row G m z.1))) H) kr_no := by
  refine kr_T.of (by decide +kernel) hF (by simp [Value.category]) (Nat.le_of_ble_eq_true rfl) (fun x hx X => ?_)
  refine kj_pure (fun H h => h.2 i z hi) (fun hc => ?_)
  have hMi := hmi _ X.warm
  refine kj_aload_n X dJ5_copyOf_2_0 rfl rfl (by first | exact ⟨some _, rfl⟩ | exact ⟨none, rfl⟩ | exact ⟨_, rfl⟩) ?_
  refine kj_ldcM X hMi q214 dJ5_copyOf_2_1 ?_
  refine kj_acmp_ne X (by first | exact Eq.refl (va_rf (some _)) | exact Eq.refl (va_rf none) | exact Eq.refl (va_rf _)) (by first | exact Eq.refl (va_rf (some _)) | exact Eq.refl (va_rf none) | exact Eq.refl (va_rf _)) 13 dJ5_copyOf_2_3 (by decide) (fun c_3 => ?_) (fun c_3 => ?_)
  · exact absurd rfl c_3
  · refine kj_iload_n X dJ5_copyOf_2_6 rfl rfl ?_
    refine kj_anew (Pn := fun q H => σ (40, q) = none ∧ kr_SB G ad bk (kr_up σ (40, q) (some (.inl (.inl (.inl (kg_A G 6, m, .inr (.inr (.inr (.inr (fun _ => none)))))))))) H) X 6 rfl q216 q215 dJ5_copyOf_2_7 (nI_pos (by omega)) (nI_clamp (by omega)) (by omega) (by dsimp only; omega) (by dsimp only; omega) (fun H H1 h ho a u => ⟨h.free (hT _).1, h.new (i := (40, H.size)) (hT _).1 a ho u⟩) (fun q => ?_)
    refine kj_and (fun hq => ?_)
    have hqi : i ≠ (40, q) := fun e => by rw [e, hq] at hi; cases hi
    have hi2 : kr_up σ (40, q) (some (.inl (.inl (.inl (kg_A G 6, m, .inr (.inr (.inr (.inr (fun _ => none)))))))) ) i = some (.inr z) := by rw [kr_up_n hqi]; exact hi
    refine kj_goto X 24 dJ5_copyOf_2_10 (by decide) ?_
    refine kj_astore_n (lv' := [_, _, _, _]) X dJ5_copyOf_2_24 rfl (by decide) (by intro w h _; cases h <;> first | rfl | exact kr_cat _) (by first | exact ⟨some _, rfl⟩ | exact ⟨none, rfl⟩ | exact ⟨_, rfl⟩) rfl ?_
    refine kj_aload_n X dJ5_copyOf_2_25 rfl rfl (by first | exact ⟨some _, rfl⟩ | exact ⟨none, rfl⟩ | exact ⟨_, rfl⟩) ?_
    refine kj_iconst (v := 0) X dJ5_copyOf_2_26 (by decide) ?_
    refine kj_aload_n X dJ5_copyOf_2_27 rfl rfl (by first | exact ⟨some _, rfl⟩ | exact ⟨none, rfl⟩ | exact ⟨_, rfl⟩) ?_
    refine kj_iconst (v := 0) X dJ5_copyOf_2_28 (by decide) ?_
    refine kj_aload_n X dJ5_copyOf_2_29 rfl rfl (by first | exact ⟨some _, rfl⟩ | exact ⟨none, rfl⟩ | exact ⟨_, rfl⟩) ?_
    refine kj_alen X 6 rfl dJ5_copyOf_2_30 (fun H h => h.la hi2 h0) rfl ?_
    refine kj_iload_n X dJ5_copyOf_2_31 rfl rfl ?_
    refine kj_min X q217 dJ5_copyOf_2_32 (Nat.le_of_ble_eq_true rfl) (by simp [Value.category]) (by dsimp only; omega) (by dsimp only; omega) ?_
    rw [show (Int32.ofNat z.2.2) = nI z.2.2 from rfl, kr_minI (by omega) (by omega)]
    have hcl : (nI (min z.2.2 m)).toNatClampNeg = min z.2.2 m := nI_clamp (by omega)
    refine kj_copy X 6 6 rfl rfl q220 dJ5_copyOf_2_35 (fun H h => h.la hi2 h0) (fun H h => by have := h.own (i := (40, q)) kr_up_s; rwa [(hT q).1] at this) (by decide) (by decide) (nI_pos (by omega)) (by rw [hcl, show (0 : Int32).toNatClampNeg = 0 from rfl]; omega) (by rw [hcl, show (0 : Int32).toNatClampNeg = 0 from rfl]; omega) (fun H h k hk b hb => ?_) (Nat.le_of_ble_eq_true rfl) (by simp [Value.category]; decide) (fun H H1 h a u => by rw [hcl, show (0 : Int32).toNatClampNeg = 0 from rfl] at a; exact h.puta (i := (40, q)) kr_up_s (by rw [(hT q).1]; exact a) (by rw [(hT q).1]; exact u)) ?_
    · have hb2 : b ∈ z.1 := List.mem_of_getElem? hb
      exact ((he i z hi b hb2).up (fun c fs e => by rw [hq] at e; cases e)).ok h.1
    have ef : (va_cpy (fun j => z.1[j]?) (fun _ => none) 0 0 (min z.2.2 m) : Nat → Option Nat) = fun j => z.1[j]? := by
      funext j
      unfold va_cpy
      by_cases hj : 0 ≤ j ∧ j < 0 + min z.2.2 m
      · rw [if_pos hj]
        simp
      · rw [if_neg hj, List.getElem?_eq_none (by omega)]
    rw [kr_up_up, ef]
    refine kj_aload_n X dJ5_copyOf_2_38 rfl rfl (by first | exact ⟨some _, rfl⟩ | exact ⟨none, rfl⟩ | exact ⟨_, rfl⟩) ?_
    exact kj_aret X (Or.inr ⟨_, rfl⟩) (by first | exact ⟨some _, rfl⟩ | exact ⟨none, rfl⟩ | exact ⟨_, rfl⟩) dJ5_copyOf_2_39 (by omega) (by omega) (fun H h => ⟨q, ⟨rfl, hq⟩, h⟩)
theorem ct_J5_copyOf (hF : kr_F G l) (hT : kr_tmp ad) (he : kr_elem ad σ) (hi : σ i = some (.inr z)) (h0 : z.2.2 ≠ 0) {m : Nat} (hm : z.1.length ≤ m) (hm2 : m ≤ 1000) : kr_T G l yJ5_copyOf (ws_ yJ5_copyOf cJ5_copyOf 2 (Option.some (Jvm.ClassFile.FieldType.array (Jvm.ClassFile.FieldType.object "java/lang/Object")))) 3 200 [.ref (bk i), .int (nI m)] (kr_SB G ad bk σ) 1 m (fun v H => ∃ q, (v = some (.ref q) ∧ σ (40, q) = none) ∧ kr_SB G ad bk (kr_up σ (40, q) (some (kr_row G m z.1))) H) kr_no := by
  refine kr_T.of (by decide +kernel) hF (by simp [Value.category]) (Nat.le_of_ble_eq_true rfl) (fun x hx X => ?_)
  obtain ⟨mi, hmi⟩ : ∃ mi, ∀ s : State, (kg_s G).WarmedH s.vm → va_Mi "[Ljava/lang/Object;" mi s := by
    obtain ⟨b, h1, h2⟩ := kf_given X.F
    obtain ⟨mi, h⟩ := va_Mi.of (h2 (.isRef (.mirror "[Ljava/lang/Object;")) (by decide +kernel))
    exact ⟨mi, fun s hs => h.moved hs.alike⟩
  refine kj_aload_n X dJ5_copyOf_0 rfl rfl (by first | exact ⟨some _, rfl⟩ | exact ⟨none, rfl⟩ | exact ⟨_, rfl⟩) ?_
  refine kj_iload_n X dJ5_copyOf_1 rfl rfl ?_
  refine kj_aload_n X dJ5_copyOf_2 rfl rfl (by first | exact ⟨some _, rfl⟩ | exact ⟨none, rfl⟩ | exact ⟨_, rfl⟩) ?_
  refine kj_getC X (hmi _ X.warm) q179 dJ5_copyOf_3 (fun H h hS => kr_arrC X (h.la hi h0)) (Nat.le_of_ble_eq_true rfl) (by simp [Value.category]) ?_
  refine kj_callS X 3 (ct_J5_copyOf_2 X.F hT he hi h0 hm hm2 hmi) (lw_S q211 q212 q50 q213) ⟨by decide, by decide, by decide +kernel⟩ dJ5_copyOf_6 rfl rfl (by first | exact Nat.le_of_ble_eq_true rfl | simp [kr_cat, Value.category]) ⟨Nat.le_of_ble_eq_true rfl, Nat.le_of_ble_eq_true rfl⟩ ⟨by dsimp only; omega, by dsimp only; omega⟩ (fun E => kjx_no) (fun v_6 => ?_)
  refine kj_open (fun q hq => ?_)
  obtain ⟨rfl, hq⟩ := hq
  exact kj_aret X (Or.inr ⟨_, rfl⟩) (by first | exact ⟨some _, rfl⟩ | exact ⟨none, rfl⟩ | exact ⟨_, rfl⟩) dJ5_copyOf_9 (by omega) (by omega) (fun H h => ⟨q, ⟨rfl, hq⟩, h⟩)
end
