/-! java.util.ArrayList: remove by place, remove a thing, contains, set, clear -/
set_option maxRecDepth 100000
theorem kr_dec {n : Nat} (h : 0 < n) : nI n - 1 = nI (n - 1) := pk_sub (b := 1) h
theorem kr_erase_at : ∀ {xs : List Nat} {k o : Nat}, xs[k]? = some o → (∀ j, j < k → xs[j]? ≠ some o) → xs.erase o = xs.eraseIdx k
  | [], k, o, h, _ => by cases h
  | a :: as, 0, o, h, _ => by
    cases h
    simp
  | a :: as, k + 1, o, h, hn => by
    have h0 : a ≠ o := fun e => hn 0 (Nat.succ_pos k) (by rw [e]; rfl)
    have ih := kr_erase_at (xs := as) (k := k) (o := o) h (fun j hj => hn (j + 1) (Nat.succ_lt_succ hj))
    rw [List.erase_cons_tail (by simpa using h0), ih]
    rfl
section
variable {G : kr_G} {x : kr_X} {y : MethodName} {cc : ByteArray} {nL : Nat} {ret : Option FieldType} {rm : Room} {hh : List (Nat × Nat × Nat × Nat)} {Q : State → Prop} {P P' : Heap → Prop} {cs ss pc : Nat} {lv lv' : List (Option Value)} {st : List Value}
/-- a call of an inherited method, by its declarer's name -/
theorem kj_callU (X : kr_C G x y cc nL ret rm hh) {z : MethodName} {bytes : ByteArray} {maxL F L mc ms index ci N b : Nat} {ret' : Option FieldType} {C : String} {T : u_T} {As rest : List Value} {Po : Option Value → Heap → Prop} {Px : String → Heap → Prop} (n : Nat)
    (hT : kr_T G (kx_l x) z (ws_ z bytes maxL ret') F L (.ref b :: As) P mc ms Po Px) (hlink : Cond.methodLink y.cls index z ∈ lw_all) (hsame : Cond.sameMethod z.cls z.cls z.name z.desc ∈ lw_all) (hsel : Cond.selects C z z ∈ lw_all) (hinst : Cond.instanceMethod z ∈ lw_all) (hini : Cond.initialized z.cls ∈ lw_all) (hw : Cond.code z bytes maxL ret' ∈ lw_all)
    (hd : z.cls ≠ "java/lang/invoke/MethodHandle" ∧ z.cls ≠ "java/lang/invoke/VarHandle" ∧ (parseMethodDescriptor z.desc).map (fun d => d.parameters.length) = some n) (hdg : decode cc pc = .ok (.invokevirtual index, 3))
    (hst : st = As.reverse ++ .ref b :: rest) (hn : As.length = n) (hlow : (rest.map fun v => v.category).sum ≤ 8) (hR : F + 1 ≤ rm.frames ∧ 8 + (maxL + 11) + L ≤ rm.locals) (hroom : cs + mc ≤ rm.cells ∧ ss + ms ≤ rm.slots)
    (hc : kr_cl[ci]? = some (C, T, N)) (hrecv : ∀ H, P H → ∃ fs, va_at (kg_D G) kr_cl (b, .inr (ci, fs)) H)
    (kx : ∀ E, kr_JX G x nL Q (Px E) (cs + mc) (ss + ms) pc lv E) (k : ∀ v, kr_J G x nL Q (Po v) (cs + mc) (ss + ms) (pc + 3) lv (v.toList ++ rest)) : kr_J G x nL Q P cs ss pc lv st := by
  subst hst
  have e := X.room
  have hG : GoodIn lw_all (va_wsU y.cls index C z.cls z z (ws_ z bytes maxL ret')) := by
    refine lw_app ?_ (lw_meth hw)
    intro u hu
    simp only [List.mem_cons, List.not_mem_nil, or_false] at hu
    rcases hu with q | q | q | q | q
    · rw [q]; exact hlink
    · rw [q]; exact hsame
    · rw [q]; exact hsel
    · rw [q]; exact hinst
    · rw [q]; exact hini
  exact kj_run (fun H locs ls hP hS hl => vx_runU (kr_fixed X) hT (va_cwU n X.hts hG rfl rfl rfl rfl hd (by show F + 1 ≤ (kx_R x).frames ∧ 8 + (maxL + 11) + L ≤ (kx_R x).locals; rw [e]; exact hR)) (kr_preV X hc (hrecv H hP) hP hS) rfl hn hl.1 rfl (lv_room hlow) hdg (by show cs + mc ≤ (kx_R x).cells ∧ ss + ms ≤ (kx_R x).slots; rw [e]; exact hroom)) kx k
end
section
variable {G : kr_G} {l : Launch} {ad bk : kr_Ro → Nat} {σ : kr_Ro → Option kr_AE} {i : kr_Ro} {z : List Nat × Int32 × Nat} {H H1 : Heap} {a : Nat}
theorem ct_J2_fastRemove (hF : kr_F G l) (he : kr_elem ad σ) (hi : σ i = some (.inr z)) {k : Nat} (hk : k < z.1.length) : kr_T G l yJ2_fastRemove (ws_ yJ2_fastRemove cJ2_fastRemove 4 (Option.none : Option Jvm.ClassFile.FieldType)) 2 100 [.ref (ad i), .ref (bk i), .int (nI k)] (kr_SB G ad bk σ) 0 0 (fun v H => v = none ∧ kr_SB G ad bk (kr_up σ i (some (.inr (z.1.eraseIdx k, z.2.1 + 1, z.2.2)))) H) kr_no := by
  refine kr_T.of (by decide +kernel) hF (by simp [Value.category]) (Nat.le_of_ble_eq_true rfl) (fun x hx X => ?_)
  refine kj_pure (fun H h => h.2) (fun hf => ?_)
  have hz := hf i z hi
  have h0 : z.2.2 ≠ 0 := by omega
  have elen : (z.1.eraseIdx k).length = z.1.length - 1 := by rw [List.length_eraseIdx, if_pos hk]
  have hi1 : kr_up σ i (some (.inr (z.1, z.2.1 + 1, z.2.2))) i = some (.inr (z.1, z.2.1 + 1, z.2.2)) := kr_up_s
  have hno : ∀ (c : Nat) (fs : List Value), σ i = some (.inl (.inl (.inr (c, fs)))) → ∃ fs', (.inr (z.1, z.2.1 + 1, z.2.2) : kr_AE) = .inl (.inl (.inr (c, fs'))) := fun c fs q => by rw [hi] at q; cases q
  have tail : ∀ f : Nat → Option Nat, va_up f (z.1.length - 1) none = (fun j => (z.1.eraseIdx k)[j]?) → kr_J G x 4 (kr_Q G x 0 0 (fun v H => v = none ∧ kr_SB G ad bk (kr_up σ i (some (.inr (z.1.eraseIdx k, z.2.1 + 1, z.2.2)))) H) kr_no) (kr_H G (Sum.elim ad bk) (kr_up (kr_exp G (kr_up σ i (some (.inr (z.1, z.2.1 + 1, z.2.2)))) bk) (.inr i) (some (kr_rw G z.2.2 f)))) 0 0 34 [some (.ref (ad i)), some (.ref (bk i)), some (.int (nI k)), some (.int (nI (z.1.length - 1)))] [] := by
    intro f hfn
    refine kj_aload_n X dJ2_fastRemove_34 rfl rfl (by first | exact ⟨some _, rfl⟩ | exact ⟨none, rfl⟩ | exact ⟨_, rfl⟩) ?_
    refine kj_aload_n X dJ2_fastRemove_35 rfl rfl (by first | exact ⟨some _, rfl⟩ | exact ⟨none, rfl⟩ | exact ⟨_, rfl⟩) ?_
    refine kj_iload_n X dJ2_fastRemove_36 rfl rfl ?_
    refine kj_dup_x1 X dJ2_fastRemove_37 (by first | rfl | exact kr_cat _) (by first | rfl | exact kr_cat _) ?_
    have hlo : kr_up (kr_exp G (kr_up σ i (some (.inr (z.1, z.2.1 + 1, z.2.2)))) bk) (.inr i) (some (kr_rw G z.2.2 f)) (.inl i) = some (.inl (.inr (17, [.int (z.2.1 + 1), .ref (bk i), .int (nI z.1.length)]))) := by
      rw [kr_up_n (by simp), kr_exp_obj hi1 h0]
    refine kj_put (P' := kr_H G (Sum.elim ad bk) (kr_up (kr_up (kr_exp G (kr_up σ i (some (.inr (z.1, z.2.1 + 1, z.2.2)))) bk) (.inr i) (some (kr_rw G z.2.2 f))) (.inl i) (some (.inl (.inr (17, [.int (z.2.1 + 1), .ref (bk i), .int (nI (z.1.length - 1))])))))) X kc_J2 2 (by decide) q114 (Or.inl rfl) rfl dJ2_fastRemove_38 rfl rfl (Nat.le_of_ble_eq_true rfl) (fun H h => h.own (i := .inl i) hlo) (fun H H1 h a u => h.put (i := .inl i) _ hlo a u) ?_
    refine kj_null X dJ2_fastRemove_41 ?_
    have hro : kr_up (kr_up (kr_exp G (kr_up σ i (some (.inr (z.1, z.2.1 + 1, z.2.2)))) bk) (.inr i) (some (kr_rw G z.2.2 f))) (.inl i) (some (.inl (.inr (17, [.int (z.2.1 + 1), .ref (bk i), .int (nI (z.1.length - 1))])))) (.inr i) = some (kr_rw G z.2.2 f) := by
      rw [kr_up_n (by simp), kr_up_s]
    refine kj_aastN (P' := kr_H G (Sum.elim ad bk) (kr_up (kr_up (kr_up (kr_exp G (kr_up σ i (some (.inr (z.1, z.2.1 + 1, z.2.2)))) bk) (.inr i) (some (kr_rw G z.2.2 f))) (.inl i) (some (.inl (.inr (17, [.int (z.2.1 + 1), .ref (bk i), .int (nI (z.1.length - 1))]))))) (.inr i) (some (kr_rw G z.2.2 (fun j => (z.1.eraseIdx k)[j]?))))) X 6 rfl dJ2_fastRemove_42 (fun H h => h.own (i := .inr i) hro) (vp_in_nI (N := z.2.2) (by omega) (by omega)) (fun H H1 h a u => by rw [nI_clamp (by omega), hfn] at a; exact h.put (i := .inr i) _ hro a u) ?_
    refine kj_vret X dJ2_fastRemove_43 (by omega) (by omega) (fun H h => ⟨rfl, kr_SB.fin (z1 := (z.1, z.2.1 + 1, z.2.2)) (z' := (z.1.eraseIdx k, z.2.1 + 1, z.2.2)) hf h0 ⟨by dsimp only; omega, hz.2⟩ rfl (Or.inr ?_) h⟩)
    dsimp only
    rw [elen]
    funext r
    by_cases q : r = .inr i
    · subst q
      rw [kr_up_s, kr_up_s]
    · rw [kr_up_n q, kr_up_n q]
      by_cases q2 : r = .inl i
      · subst q2
        rw [kr_up_s, kr_up_s]
      · rw [kr_up_n q2, kr_up_n q2, kr_up_n q]
  refine kj_aload_n X dJ2_fastRemove_0 rfl rfl (by first | exact ⟨some _, rfl⟩ | exact ⟨none, rfl⟩ | exact ⟨_, rfl⟩) ?_
  refine kj_dup X dJ2_fastRemove_1 (by first | rfl | exact kr_cat _) ?_
  refine kj_get X kc_J2 0 (by decide) q118 (Or.inr q117) dJ2_fastRemove_2 (fun H h => h.lo hi) rfl ?_
  refine kj_iconst (v := 1) X dJ2_fastRemove_5 (by decide) ?_
  refine kj_iadd X dJ2_fastRemove_6 ?_
  refine kj_put X kc_J2 0 (by decide) q118 (Or.inr q117) rfl dJ2_fastRemove_7 (by first | rfl | exact kr_nar _ _ | exact kr_narb _) (by first | rfl | exact kr_fitr _ _ | exact kr_fitb _) (Nat.le_of_ble_eq_true rfl) (fun H h => h.lo hi) (fun H H1 h a u => h.mc hi a u) ?_
  refine kj_aload_n X dJ2_fastRemove_10 rfl rfl (by first | exact ⟨some _, rfl⟩ | exact ⟨none, rfl⟩ | exact ⟨_, rfl⟩) ?_
  refine kj_get X kc_J2 2 (by decide) q114 (Or.inl rfl) dJ2_fastRemove_11 (fun H h => h.lo hi1) rfl ?_
  dsimp only
  refine kj_iconst (v := 1) X dJ2_fastRemove_14 (by decide) ?_
  refine kj_isub X dJ2_fastRemove_15 ?_
  rw [kr_dec (by omega)]
  refine kj_dup X dJ2_fastRemove_16 (by first | rfl | exact kr_cat _) ?_
  refine kj_istore_n (lv' := [_, _, _, _]) X dJ2_fastRemove_17 rfl (by decide) (by intro w h _; cases h <;> first | rfl | exact kr_cat _) rfl ?_
  refine kj_iload_n X dJ2_fastRemove_18 rfl rfl ?_
  refine kj_icmp_le X 34 dJ2_fastRemove_19 (by decide) (fun c_19 => ?_) (fun c_19 => ?_)
  · have e1 : z.1.length - 1 ≤ k := by
      rcases Nat.lt_or_ge k (z.1.length - 1) with q | q
      · exact absurd c_19 (by rw [Int32.not_le]; exact nI_lt q (by omega))
      · exact q
    refine kj_P (fun H h => ?_) (tail (fun j => z.1[j]?) ?_)
    · rw [kr_up_id (kr_exp_row hi1 h0)]
      exact h.1
    · rw [show z.1.length - 1 = k by omega]
      exact kr_fn_cut (by omega)
  · have e1 : k < z.1.length - 1 := by
      rcases Nat.lt_or_ge k (z.1.length - 1) with q | q
      · exact q
      · exact absurd (nI_le q (by omega)) c_19
    refine kj_aload_n X dJ2_fastRemove_22 rfl rfl (by first | exact ⟨some _, rfl⟩ | exact ⟨none, rfl⟩ | exact ⟨_, rfl⟩) ?_
    refine kj_iload_n X dJ2_fastRemove_23 rfl rfl ?_
    refine kj_iconst (v := 1) X dJ2_fastRemove_24 (by decide) ?_
    refine kj_iadd X dJ2_fastRemove_25 ?_
    refine kj_aload_n X dJ2_fastRemove_26 rfl rfl (by first | exact ⟨some _, rfl⟩ | exact ⟨none, rfl⟩ | exact ⟨_, rfl⟩) ?_
    refine kj_iload_n X dJ2_fastRemove_27 rfl rfl ?_
    refine kj_iload_n X dJ2_fastRemove_28 rfl rfl ?_
    refine kj_iload_n X dJ2_fastRemove_29 rfl rfl ?_
    refine kj_isub X dJ2_fastRemove_30 ?_
    rw [nI_1, pk_sub (by omega)]
    have hcl : (nI (z.1.length - 1 - k)).toNatClampNeg = z.1.length - 1 - k := nI_clamp (by omega)
    have hck : (nI k).toNatClampNeg = k := nI_clamp (by omega)
    have hck1 : (nI (k + 1)).toNatClampNeg = k + 1 := nI_clamp (by omega)
    refine kj_copy (P' := kr_H G (Sum.elim ad bk) (kr_up (kr_exp G (kr_up σ i (some (.inr (z.1, z.2.1 + 1, z.2.2)))) bk) (.inr i) (some (kr_rw G z.2.2 (va_cpy (fun j => z.1[j]?) (fun j => z.1[j]?) (k + 1) k (z.1.length - 1 - k)))))) X 6 6 rfl rfl q961 dJ2_fastRemove_31 (fun H h => h.la hi1 h0) (fun H h => h.la hi1 h0) (nI_pos (by omega)) (nI_pos (by omega)) (nI_pos (by omega)) (by rw [hcl, hck1]; dsimp only; omega) (by rw [hcl, hck]; dsimp only; omega) (fun H h w hw b hb => ((he i z hi b (List.mem_of_getElem? hb)).up hno).ok h.1) (Nat.le_of_ble_eq_true rfl) (by simp [Value.category]; decide) (fun H H1 h a u => by rw [hcl, hck, hck1] at a; exact h.1.put (i := .inr i) (kr_rw G z.2.2 (va_cpy (fun j => z.1[j]?) (fun j => z.1[j]?) (k + 1) k (z.1.length - 1 - k))) (kr_exp_row hi1 h0) a u) ?_
    exact tail _ (kr_fn_del hk)
theorem kr_elem.cut (he : kr_elem ad σ) (hi : σ i = some (.inr z)) {k : Nat} {w : Int32 × Nat} : kr_elem ad (kr_up σ i (some (.inr (z.1.eraseIdx k, w)))) := he.upl hi (fun b hb => he i z hi b (List.mem_of_mem_eraseIdx hb))
theorem ct_J2_remove (hF : kr_F G l) (hi : σ i = some (.inr z)) {k o : Nat} (hk : z.1[k]? = some o) : kr_T G l yJ2_remove (ws_ yJ2_remove cJ2_remove 4 (Option.some (Jvm.ClassFile.FieldType.object "java/lang/Object"))) 4 200 [.ref (ad i), .int (nI k)] (kr_S G ad σ) 0 0 (fun v H => v = some (.ref o) ∧ kr_S G ad (kr_up σ i (some (.inr (z.1.eraseIdx k, z.2.1 + 1, z.2.2)))) H) kr_no := by
  have hlt : k < z.1.length := (List.getElem?_eq_some_iff.mp hk).1
  refine kr_T.of (by decide +kernel) hF (by simp [Value.category]) (Nat.le_of_ble_eq_true rfl) (fun x hx X => ?_)
  refine kj_pure (fun H h => h.1) (fun he => ?_)
  refine kj_ex (P' := fun bk => kr_SB G ad bk σ) (fun H h => h.2) (fun bk => ?_)
  refine kj_pure (fun H h => h.2 i z hi) (fun hc => ?_)
  have h0 : z.2.2 ≠ 0 := by omega
  refine kj_iload_n X dJ2_remove_0 rfl rfl ?_
  refine kj_aload_n X dJ2_remove_1 rfl rfl (by first | exact ⟨some _, rfl⟩ | exact ⟨none, rfl⟩ | exact ⟨_, rfl⟩) ?_
  refine kj_get X kc_J2 2 (by decide) q114 (Or.inl rfl) dJ2_remove_2 (fun H h => h.lo hi) rfl ?_
  refine kj_callS X 2 (ct_J13_checkIndex X.F hlt (by omega)) (lw_S q595 q596 q61 q597) ⟨by decide, by decide, by decide +kernel⟩ dJ2_remove_5 rfl rfl (by first | exact Nat.le_of_ble_eq_true rfl | simp [kr_cat, Value.category]) ⟨Nat.le_of_ble_eq_true rfl, Nat.le_of_ble_eq_true rfl⟩ ⟨by dsimp only; omega, by dsimp only; omega⟩ (fun E => kjx_no) (fun v_5 => ?_)
  refine kj_and (fun e => ?_)
  subst e
  refine kj_pop X dJ2_remove_8 (by first | rfl | exact kr_cat _) ?_
  refine kj_aload_n X dJ2_remove_9 rfl rfl (by first | exact ⟨some _, rfl⟩ | exact ⟨none, rfl⟩ | exact ⟨_, rfl⟩) ?_
  refine kj_get X kc_J2 1 (by decide) q111 (Or.inl rfl) dJ2_remove_10 (fun H h => h.lo hi) rfl ?_
  rw [if_neg h0]
  refine kj_astore_n (lv' := [_, _, _, _]) X dJ2_remove_13 rfl (by decide) (by intro w h _; cases h <;> first | rfl | exact kr_cat _) (by first | exact ⟨some _, rfl⟩ | exact ⟨none, rfl⟩ | exact ⟨_, rfl⟩) rfl ?_
  refine kj_aload_n X dJ2_remove_14 rfl rfl (by first | exact ⟨some _, rfl⟩ | exact ⟨none, rfl⟩ | exact ⟨_, rfl⟩) ?_
  refine kj_iload_n X dJ2_remove_15 rfl rfl ?_
  refine kj_aald X 6 rfl dJ2_remove_16 (fun H h => h.la hi h0) (vp_in_nI (N := z.2.2) (by omega) (by omega)) ?_
  rw [nI_clamp (by omega : k < 2 ^ 31), hk]
  refine kj_astore_n (lv' := [_, _, _, _]) X dJ2_remove_17 rfl (by decide) (by intro w h _; cases h <;> first | rfl | exact kr_cat _) (by first | exact ⟨some _, rfl⟩ | exact ⟨none, rfl⟩ | exact ⟨_, rfl⟩) rfl ?_
  refine kj_aload_n X dJ2_remove_18 rfl rfl (by first | exact ⟨some _, rfl⟩ | exact ⟨none, rfl⟩ | exact ⟨_, rfl⟩) ?_
  refine kj_aload_n X dJ2_remove_19 rfl rfl (by first | exact ⟨some _, rfl⟩ | exact ⟨none, rfl⟩ | exact ⟨_, rfl⟩) ?_
  refine kj_iload_n X dJ2_remove_20 rfl rfl ?_
  refine kj_callV X 2 (ct_J2_fastRemove X.F he hi hlt) (lw_V q986 q988 qs9 q46 q989) ⟨rfl, by decide, by decide, by decide +kernel⟩ dJ2_remove_21 rfl rfl (by first | exact Nat.le_of_ble_eq_true rfl | simp [kr_cat, Value.category]) ⟨Nat.le_of_ble_eq_true rfl, Nat.le_of_ble_eq_true rfl⟩ ⟨by dsimp only; omega, by dsimp only; omega⟩ kc_J2.1 (fun H h => h.list hi) (fun E => kjx_no) (fun v_21 => ?_)
  refine kj_and (fun e => ?_)
  subst e
  refine kj_aload_n X dJ2_remove_24 rfl rfl (by first | exact ⟨some _, rfl⟩ | exact ⟨none, rfl⟩ | exact ⟨_, rfl⟩) ?_
  exact kj_aret X (Or.inl ⟨_, rfl⟩) (by first | exact ⟨some _, rfl⟩ | exact ⟨none, rfl⟩ | exact ⟨_, rfl⟩) dJ2_remove_25 (by omega) (by omega) (fun H h => ⟨rfl, h.S (he.cut hi)⟩)
end
