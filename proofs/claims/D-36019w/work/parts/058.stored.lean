/-! isStored: whether a line is of the kind of a room -/
set_option maxRecDepth 100000
theorem kr_lnT (dA : Nat → ClassId) {c : Nat} (h : 8 ≤ c ∧ c ≤ 16) : ∃ C T N, kr_cl[c]? = some (C, T, N) ∧ kr_lnames[c - 8]? = some C ∧ (kr_tys dA)[c]? = some (dA c, .object C) := by
  have e : c = 8 ∨ c = 9 ∨ c = 10 ∨ c = 11 ∨ c = 12 ∨ c = 13 ∨ c = 14 ∨ c = 15 ∨ c = 16 := by omega
  rcases e with rfl | rfl | rfl | rfl | rfl | rfl | rfl | rfl | rfl <;> exact ⟨_, _, _, rfl, rfl, rfl⟩
theorem kr_ln_inj {a b : Nat} {C : String} (ha : kr_lnames[a]? = some C) (hb : kr_lnames[b]? = some C) : a = b := by
  have hn : kr_lnames.Nodup := by decide +kernel
  exact (List.getElem?_inj (List.getElem?_eq_some_iff.mp ha).1 hn).mp (ha.trans hb.symm)
abbrev kr_rm (G : kr_G) (t n : Nat) (f : Nat → Option Nat) : Option kr_AE := some (.inl (.inl (.inl (kg_A G t, n, .inr (.inr (.inr (.inr f)))))))
section
variable {G : kr_G} {l : Launch} {ad : kr_Ro → Nat} {σ : kr_Ro → Option kr_AE} {z w : kr_Ro} {n : Nat} {f : Nat → Option Nat} {fs : List Value} {i : Int32}
theorem ct_X1_isStored (hF : kr_F G l) {c t : Nat} (hc : 8 ≤ c ∧ c ≤ 16) (ht : 8 ≤ t ∧ t ≤ 16) (hz : σ z = kr_rm G t n f) (hw : σ w = kr_o c fs) (hin : vp_in i n) : kr_T G l yX1_isStored (wsW_ yX1_isStored cX1_isStored 4 (Option.some Jvm.ClassFile.FieldType.boolean) [(0, 5, 6, 51)]) 8 10300 [.ref (ad z), .int i, .ref (ad w)] (kr_S G ad σ) 3 50 (fun v H => v = some (.int (if c = t then 1 else 0)) ∧ kr_S G ad (kr_up σ z (kr_rm G t n (if c = t then va_up f i.toNatClampNeg (some (ad w)) else f))) H) kr_no := by
  obtain ⟨C, T, N, c1, c2, -⟩ := kr_lnT (kg_A G) hc
  obtain ⟨E, T', N', -, e2, e3⟩ := kr_lnT (kg_A G) ht
  refine kr_T.ofH (by decide +kernel) hF (by simp [Value.category]) (Nat.le_of_ble_eq_true rfl) fun x hx X => ?_
  refine kj_aload_n X dX1_isStored_0 rfl rfl (by first | exact ⟨some _, rfl⟩ | exact ⟨none, rfl⟩ | exact ⟨_, rfl⟩) ?_
  refine kj_iload_n X dX1_isStored_1 rfl rfl ?_
  refine kj_aload_n X dX1_isStored_2 rfl rfl (by first | exact ⟨some _, rfl⟩ | exact ⟨none, rfl⟩ | exact ⟨_, rfl⟩) ?_
  by_cases he : c = t
  · subst he
    cases Option.some.inj (c2.symm.trans e2)
    refine kj_aast (P' := kr_S G ad (kr_up σ z (kr_rm G c n (va_up f i.toNatClampNeg (some (ad w)))))) X c e3 c1 (Or.inl rfl) dX1_isStored_3 (fun H h => h.own hz) (fun H h => h.at hw) hin (fun H H1 h a u => h.puta hz a u) ?_
    refine kj_iconst (v := 1) X dX1_isStored_4 (by decide) ?_
    exact kj_zret X (by first | rfl | exact kr_narb _) dX1_isStored_5 (by omega) (by omega) (fun H h => ⟨by rw [if_pos rfl], by rw [if_pos rfl]; exact h⟩)
  · have hne : C ≠ E := fun e => he (by
      subst e
      have := kr_ln_inj c2 e2
      omega)
    refine kj_aastB X t e3 c1 (List.mem_of_getElem? c2) (List.mem_of_getElem? e2) hne dX1_isStored_3 (fun H h => h.own hz) (fun H h => h.at hw) hin kr_S.mono ⟨by dsimp only; omega, by simp [Value.category]⟩ ⟨by dsimp only; omega, by dsimp only; omega⟩ ?_
    refine kj_catch (name := "java/lang/ArrayStoreException") X [] ⟨0, 5, 6, 51⟩ [] rfl (fun z h => by cases h) (by decide) (by decide) q1030 q1042 (fun q => ?_)
    refine kj_astore_n (lv' := [_, _, _, _]) X dX1_isStored_6 rfl (by decide) (by intro w h _; cases h <;> first | rfl | exact kr_cat _) (by first | exact ⟨some _, rfl⟩ | exact ⟨none, rfl⟩ | exact ⟨_, rfl⟩) rfl ?_
    refine kj_iconst (v := 0) X dX1_isStored_7 (by decide) ?_
    exact kj_zret X (by first | rfl | exact kr_narb _) dX1_isStored_8 (by omega) (by omega) (fun H h => ⟨by rw [if_neg he], by rw [if_neg he, kr_up_id hz]; exact h⟩)
end
