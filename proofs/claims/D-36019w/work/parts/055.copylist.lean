/-! ArrayList(Collection) of a list -/
set_option maxRecDepth 100000
section
variable {G : kr_G} {l : Launch} {ad bk : kr_Ro → Nat} {σ : kr_Ro → Option kr_AE} {i j : kr_Ro} {z : List Nat × Int32 × Nat} {H H1 : Heap} {a : Nat}
/-- an object and a row become a list -/
theorem kr_S.join {q : Nat} {xs : List Nat} {mc : Int32} {fs : List Value} (h : kr_S G ad (kr_up (kr_up σ (40, q) (some (kr_row G xs.length xs))) j (kr_o 17 [.int mc, .ref q, .int (nI xs.length)])) H) (hT : kr_tmp ad) (hj : σ j = kr_o 17 fs) (hq : σ (40, q) = none) (h0 : xs ≠ []) (h1 : xs.length ≤ 1000) (hx : ∀ e ∈ xs, kr_obj ad (kr_up σ j (some (.inr (xs, mc, xs.length)))) e) (hel : kr_elem ad σ) : kr_S G ad (kr_up σ j (some (.inr (xs, mc, xs.length)))) H := by
  have hjq : j ≠ (40, q) := fun e => by rw [e, hq] at hj; cases hj
  have hlen : xs.length ≠ 0 := fun e => h0 (List.length_eq_zero_iff.mp e)
  obtain ⟨-, bk, h2, h3⟩ := h
  have hf : kr_fit σ := fun k w hk => h3 k w (by
    rw [kr_up_n (fun e => by rw [e, hj] at hk; cases hk), kr_up_n (fun e => by rw [e, hq] at hk; cases hk)]
    exact hk)
  refine ⟨?_, kr_up bk j q, kr_SB.rebk hf h2 (q := q) (z' := (xs, mc, xs.length)) ⟨Nat.le_refl _, h1⟩ hlen (hT q).1 hjq hq ?_ ?_ ?_⟩
  · intro k w hk e he
    by_cases hkj : k = j
    · rw [hkj, kr_up_s] at hk
      cases hk
      exact hx e he
    · rw [kr_up_n hkj] at hk
      obtain ⟨k2, c, gs, o1, o2, o3, o4⟩ := hel k w hk e he
      refine ⟨k2, c, gs, ?_, o2, o3, o4⟩
      rw [kr_up_n (fun e2 => by rw [e2, hj] at o1; cases o1; exact absurd o4 (by decide))]
      exact o1
  · rw [kr_exp_c kr_up_s]
    unfold kr_lo
    rw [if_neg hlen]
  · rw [kr_exp_c (e := .inl (.inl (kg_A G 6, xs.length, .inr (.inr (.inr (.inr (fun j => xs[j]?))))))) (by rw [kr_up_n (Ne.symm hjq), kr_up_s])]
    rfl
  · intro r r1 r2 r3
    cases r with
    | inl k =>
      have n1 : k ≠ j := fun e => r1 (by rw [e])
      have n2 : k ≠ (40, q) := fun e => r3 (by rw [e])
      simp [kr_exp, kr_up, n1, n2]
    | inr k =>
      have n1 : k ≠ j := fun e => r2 (by rw [e])
      by_cases n2 : k = (40, q)
      · subst n2
        simp [kr_exp, kr_up, n1, hq]
      · simp [kr_exp, kr_up, n1, n2]
theorem ct_J2_init_2 (hF : kr_F G l) (hT : kr_tmp ad) (hi : σ i = some (.inr z)) (hj : σ j = kr_o 17 [.int 0, .null, .int 0]) (hj40 : j.1 = 40) : kr_T G l yJ2_init_2 (ws_ yJ2_init_2 cJ2_init_2 3 (Option.none : Option Jvm.ClassFile.FieldType)) 5 400 [.ref (ad j), .ref (ad i)] (kr_S G ad σ) 1 z.1.length (fun v H => ∃ e : Option kr_AE, (v = none ∧ ((z.1 ≠ [] ∧ e = some (.inr (z.1, 0, z.1.length))) ∨ (z.1 = [] ∧ e = kr_o 17 [.int 0, .ref (kg_e1 G), .int 0]))) ∧ kr_S G ad (kr_up σ j e) H) kr_no := by
  refine kr_T.of (by decide +kernel) hF (by simp [Value.category]) (Nat.le_of_ble_eq_true rfl) (fun x hx X => ?_)
  refine kj_pure (fun H h => h.1) (fun he => ?_)
  refine kj_pure (fun H h => h.fits hi) (fun hf => ?_)
  obtain ⟨mi, hMi⟩ := X.mi (C := "java/util/ArrayList") (Or.inr rfl)
  refine kj_aload_n X dJ2_init_2_0 rfl rfl (by first | exact ⟨some _, rfl⟩ | exact ⟨none, rfl⟩ | exact ⟨_, rfl⟩) ?_
  refine kj_callI X 0 (ct_J1_init X.F hj) q104 q45 q102 q103 rfl ⟨by decide, by decide, by decide +kernel⟩ dJ2_init_2_1 rfl rfl (by first | exact Nat.le_of_ble_eq_true rfl | simp [kr_cat, Value.category]) ⟨Nat.le_of_ble_eq_true rfl, Nat.le_of_ble_eq_true rfl⟩ ⟨by dsimp only; omega, by dsimp only; omega⟩ (fun E => kjx_no) (fun v_1 => ?_)
  refine kj_and (fun e_1 => ?_)
  subst e_1
  rw [show (some (.inl (.inl (.inr (17, [.int 0, .null, .int 0])))) : Option kr_AE) = kr_o 17 [.int 0, .null, .int 0] from rfl, kr_up_id hj]
  refine kj_aload_n X dJ2_init_2_4 rfl rfl (by first | exact ⟨some _, rfl⟩ | exact ⟨none, rfl⟩ | exact ⟨_, rfl⟩) ?_
  refine kj_callF X 0 (ct_J2_toArray X.F hT hi) q1409 q1413 q1415 q46 q1417 q1411 q1410 q1416 q1414 q1412 ⟨by decide, by decide, by decide +kernel⟩ dJ2_init_2_5 rfl rfl (by first | exact Nat.le_of_ble_eq_true rfl | simp [kr_cat, Value.category]) ⟨Nat.le_of_ble_eq_true rfl, Nat.le_of_ble_eq_true rfl⟩ ⟨by dsimp only; omega, by dsimp only; omega⟩ kc_J2.1 (fun H h => h.list (hi)) (fun E => kjx_no) (fun v_5 => ?_)
  refine kj_open (fun q hq => ?_)
  obtain ⟨hv, hq⟩ := hq
  subst hv
  have hjq : j ≠ (40, q) := fun e => by rw [e, hq] at hj; cases hj
  have hij : i ≠ j := fun e => by rw [e, hj] at hi; cases hi
  have hj2 : kr_up σ (40, q) (some (kr_row G z.1.length z.1)) j = kr_o 17 [.int 0, .null, .int 0] := by rw [kr_up_n hjq]; exact hj
  refine kj_astore_n (lv' := [_, _, _]) X dJ2_init_2_10 rfl (by decide) (by intro w h _; cases h <;> first | rfl | exact kr_cat _) (by first | exact ⟨some _, rfl⟩ | exact ⟨none, rfl⟩ | exact ⟨_, rfl⟩) rfl ?_
  refine kj_aload_n X dJ2_init_2_11 rfl rfl (by first | exact ⟨some _, rfl⟩ | exact ⟨none, rfl⟩ | exact ⟨_, rfl⟩) ?_
  refine kj_aload_n X dJ2_init_2_12 rfl rfl (by first | exact ⟨some _, rfl⟩ | exact ⟨none, rfl⟩ | exact ⟨_, rfl⟩) ?_
  refine kj_alen X 6 rfl dJ2_init_2_13 (fun H h => by have := h.own (i := (40, q)) kr_up_s; rwa [(hT q).1] at this) rfl ?_
  refine kj_dup_x1 X dJ2_init_2_14 (by first | rfl | exact kr_cat _) (by first | rfl | exact kr_cat _) ?_
  refine kj_put X kc_J2 2 (by decide) q114 (Or.inl rfl) rfl dJ2_init_2_15 (by first | rfl | exact kr_nar _ _ | exact kr_narb _) (by first | rfl | exact kr_fitr _ _ | exact kr_fitb _) (Nat.le_of_ble_eq_true rfl) (fun H h => h.own hj2) (fun H H1 h a u => h.upd (fs' := [.int 0, .null, .int (nI z.1.length)]) hj2 rfl a u) ?_
  have hj3 : kr_up (kr_up σ (40, q) (some (kr_row G z.1.length z.1))) j (kr_o 17 [.int 0, .null, .int (nI z.1.length)]) j = kr_o 17 [.int 0, .null, .int (nI z.1.length)] := kr_up_s
  have hi3 : kr_up (kr_up σ (40, q) (some (kr_row G z.1.length z.1))) j (kr_o 17 [.int 0, .null, .int (nI z.1.length)]) i = some (.inr z) := by rw [kr_up_n hij, kr_up_n (fun e => by rw [e, hq] at hi; cases hi)]; exact hi
  refine kj_P (P' := kr_S G ad (kr_up (kr_up σ (40, q) (some (kr_row G z.1.length z.1))) j (kr_o 17 [.int 0, .null, .int (nI z.1.length)]))) (fun H h => h) ?_
  rw [show Int32.ofNat z.1.length = nI z.1.length from rfl]
  refine kj_if_eq X 57 dJ2_init_2_18 (by decide) (fun c_18 => ?_) (fun c_18 => ?_)
  · have h0 : z.1 = [] := List.length_eq_zero_iff.mp ((nI_eq (b := 0) (by omega) (by omega)).mp c_18)
    have fin0 : ∀ H, kr_S G ad (kr_up (kr_up σ (40, q) (some (kr_row G z.1.length z.1))) j (kr_o 17 [.int 0, .ref (kg_e1 G), .int (nI z.1.length)])) H → kr_S G ad (kr_up σ j (kr_o 17 [.int 0, .ref (kg_e1 G), .int 0])) H := fun H h => by
      rw [h0] at h
      refine h.drop (fun k hk => ?_) (fun k hk => ?_)
      · rw [kr_up_n (fun e => hk (by rw [e]; exact hj40)), kr_up_n (fun e => hk (by rw [e]; exact hj40)), kr_up_n (fun e => hk (by rw [e]))]
      · by_cases e1 : k = j
        · rw [e1, kr_up_s, kr_up_s]
          exact Or.inr rfl
        · rw [kr_up_n e1, kr_up_n e1]
          by_cases e2 : k = (40, q)
          · rw [e2, hq]
            exact Or.inl rfl
          · rw [kr_up_n e2]
            exact Or.inr rfl
    refine kj_aload_n X dJ2_init_2_57 rfl rfl (by first | exact ⟨some _, rfl⟩ | exact ⟨none, rfl⟩ | exact ⟨_, rfl⟩) ?_
    refine kj_gets X (kf_e1 X.F) q1427 dJ2_init_2_58 ?_
    refine kj_put X kc_J2 1 (by decide) q111 (Or.inl rfl) rfl dJ2_init_2_61 (by first | rfl | exact kr_nar _ _ | exact kr_narb _) (by first | rfl | exact kr_fitr _ _ | exact kr_fitb _) (Nat.le_of_ble_eq_true rfl) (fun H h => h.own hj3) (fun H H1 h a u => h.upd (fs' := [.int 0, .ref (kg_e1 G), .int (nI z.1.length)]) hj3 kr_up_up a u) ?_
    exact kj_vret X dJ2_init_2_64 (by omega) (by omega) (fun H h => ⟨_, ⟨rfl, Or.inr ⟨h0, rfl⟩⟩, fin0 H h⟩)
  · have h0 : z.1 ≠ [] := fun e => c_18 (by rw [e]; rfl)
    refine kj_aload_n X dJ2_init_2_21 rfl rfl (by first | exact ⟨some _, rfl⟩ | exact ⟨none, rfl⟩ | exact ⟨_, rfl⟩) ?_
    refine kj_getCI X hMi q1419 dJ2_init_2_22 (fun H h => h.list hi3) (Nat.le_of_ble_eq_true rfl) ⟨Nat.le_of_ble_eq_true rfl, Nat.le_of_ble_eq_true rfl⟩ ?_
    refine kj_ldcM X hMi q1424 dJ2_init_2_27 ?_
    refine kj_acmp_ne X (by first | exact Eq.refl (va_rf (some _)) | exact Eq.refl (va_rf none) | exact Eq.refl (va_rf _)) (by first | exact Eq.refl (va_rf (some _)) | exact Eq.refl (va_rf none) | exact Eq.refl (va_rf _)) 40 dJ2_init_2_29 (by decide) (fun c_29 => ?_) (fun c_29 => ?_)
    · exact absurd rfl c_29
    have fin : ∀ H, kr_S G ad (kr_up (kr_up σ (40, q) (some (kr_row G z.1.length z.1))) j (kr_o 17 [.int 0, .ref q, .int (nI z.1.length)])) H → kr_S G ad (kr_up σ j (some (.inr (z.1, 0, z.1.length)))) H := fun H h => kr_S.join h hT hj hq h0 (by omega) (fun e hm => by
      obtain ⟨k2, c, gs, o1, o2, o3, o4⟩ := he i z hi e hm
      exact ⟨k2, c, gs, by rw [kr_up_n (fun e2 => o3 (by rw [e2]; exact hj40))]; exact o1, o2, o3, o4⟩) he
    refine kj_aload_n X dJ2_init_2_32 rfl rfl (by first | exact ⟨some _, rfl⟩ | exact ⟨none, rfl⟩ | exact ⟨_, rfl⟩) ?_
    refine kj_aload_n X dJ2_init_2_33 rfl rfl (by first | exact ⟨some _, rfl⟩ | exact ⟨none, rfl⟩ | exact ⟨_, rfl⟩) ?_
    refine kj_put X kc_J2 1 (by decide) q111 (Or.inl rfl) rfl dJ2_init_2_34 (by first | rfl | exact kr_nar _ _ | exact kr_narb _) (by first | rfl | exact kr_fitr _ _ | exact kr_fitb _) (Nat.le_of_ble_eq_true rfl) (fun H h => h.own hj3) (fun H H1 h a u => h.upd (fs' := [.int 0, .ref q, .int (nI z.1.length)]) hj3 kr_up_up a u) ?_
    refine kj_goto X 64 dJ2_init_2_37 (by decide) ?_
    exact kj_vret X dJ2_init_2_64 (by omega) (by omega) (fun H h => ⟨_, ⟨rfl, Or.inl ⟨h0, rfl⟩⟩, fin H h⟩)
end
