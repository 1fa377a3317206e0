/-! KIND OF A LINE; CUT; LINES -/
set_option maxRecDepth 100000
/-- the letter of a class of lines -/
def fLet (c : Nat) : Int32 := kr_let.getD (c - 8) 0
theorem fKind_let : ∀ j, j < 9 → fKind (kr_let.getD j 0) = 8 + j := by decide
theorem fLet_nar : ∀ j, j < 9 → narrow .char (.int (kr_let.getD j 0)) = .int (kr_let.getD j 0) := by
  intro j hj
  have key := (kr_let_ok j hj).2
  show Value.int (vp_nar .char (kr_let.getD j 0)) = _
  rw [key]
section
variable {G : kr_G} {l : Launch} {g g' : kr_Gh} {S S' : kr_St} {Z Z' : kr_Ro → Option kr_AE}
theorem ct_X1_kindOf (hF : kr_F G l) (hg : kr_gok g) {b : Nat} (hb : 8 ≤ sN S 12 b ∧ sN S 12 b ≤ 16) : kr_T G l yX1_kindOf (ws_ yX1_kindOf cX1_kindOf 6 (Option.some Jvm.ClassFile.FieldType.char)) 9 10500 [.ref (gA g (17, b))] (kr_S G (gA g) (kr_cells G g S Z)) 37 468 (fun v H => v = some (.int (fLet (sN S 12 b))) ∧ kr_S G (gA g) (kr_cells G g S Z) H) kr_no := by
  refine kr_T.of (by decide +kernel) hF (by simp [Value.category]) (Nat.le_of_ble_eq_true rfl) (fun x hx X => ?_)
  obtain ⟨aK, aV, hs⟩ := kf_str X.F
  refine kj_bipush (v := 115) X dX1_kindOf_0 (by decide) ?_
  refine kj_istore_n (lv' := [_, _, _, _, _, _]) X dX1_kindOf_2 rfl (by decide) (by intro w h _; cases h <;> first | rfl | exact kr_cat _) rfl ?_
  refine kj_ldcS X dX1_kindOf_3 hs.1 ?_
  refine kj_callVO X 0 (ct_J12_toCharArray X.F hg hs) (lw_V q995 q996 q997 q60 q998) ⟨rfl, by decide, by decide, by decide +kernel⟩ dX1_kindOf_5 rfl rfl (Nat.le_of_ble_eq_true rfl) ⟨Nat.le_of_ble_eq_true rfl, Nat.le_of_ble_eq_true rfl⟩ ⟨by dsimp only; omega, by dsimp only; omega⟩ hs.2.1 (fun E => kjx_no) (fun v_5 => ?_)
  refine kj_open (fun q hq => ?_)
  obtain ⟨rfl, hq⟩ := hq
  rw [show (some (Value.ref q)).toList = [Value.ref (gA g (40, q))] from by rw [(hg.1 q).1]; rfl]
  have ka : kr_cells G g S (kr_up Z (40, q) (kr_ai G 4 9 (kr_lpre 9))) (40, q) = kr_ai G 4 9 (kr_lpre 9) := by rw [kc_Zt, kr_up_s]
  refine kj_astore_n (lv' := [_, _, _, _, _, _]) X dX1_kindOf_8 rfl (by decide) (by intro w h _; cases h <;> first | rfl | exact kr_cat _) (by first | exact ⟨some _, rfl⟩ | exact ⟨none, rfl⟩ | exact ⟨_, rfl⟩) rfl ?_
  refine kj_aload_n X dX1_kindOf_9 rfl rfl (by first | exact ⟨some _, rfl⟩ | exact ⟨none, rfl⟩ | exact ⟨_, rfl⟩) ?_
  refine kj_alen X 4 rfl dX1_kindOf_10 (fun H h => h.own (ka)) rfl ?_
  refine kj_istore_n (lv' := [_, _, _, _, _, _]) X dX1_kindOf_11 rfl (by decide) (by intro w h _; cases h <;> first | rfl | exact kr_cat _) rfl ?_
  refine kj_iconst (v := 0) X dX1_kindOf_12 (by decide) ?_
  refine kj_istore (lv' := [_, _, _, _, _, _]) X dX1_kindOf_13 (by decide) (by intro w h _; cases h <;> first | rfl | exact kr_cat _) rfl ?_
  have k17 : ∀ Z1, kr_cells G g S Z1 (17, b) = kr_o (sN S 12 b) [.int (sI S 6 b)] := fun Z1 => kc_17 (by omega)
  have loop : ∀ m j v5 cs ss kd, j + m = 9 → cs ≤ 1 + 4 * j → ss ≤ 9 + 51 * j → (sN S 12 b - 8 < j → kd = fLet (sN S 12 b)) → kr_J G x 6 (kr_Q G x 37 468 (fun v H => v = some (.int (fLet (sN S 12 b))) ∧ kr_S G (gA g) (kr_cells G g S Z) H) kr_no) (kr_S G (gA g) (kr_cells G g S (kr_up Z (40, q) (kr_ai G 4 9 (kr_lpre 9))))) cs ss 15 [some (.ref (gA g (17, b))), some (.int kd), some (.ref (gA g (40, q))), some (.int 9), some (.int (nI j)), v5] [] := by
    intro m
    induction m with
    | zero =>
      intro j v5 cs ss kd hj h1 h2 hkd
      obtain rfl : j = 9 := by omega
      have ekd := hkd (by omega)
      subst ekd
      refine kj_iload X dX1_kindOf_15 rfl ?_
      refine kj_iload_n X dX1_kindOf_17 rfl rfl ?_
      refine kj_icmp_ge X 54 dX1_kindOf_18 (by decide) (fun c_18 => ?_) (fun c_18 => ?_)
      · refine kj_iload_n X dX1_kindOf_54 rfl rfl ?_
        exact kj_zret X (fLet_nar _ (by omega)) dX1_kindOf_55 (by omega) (by omega) (fun H h => ⟨rfl, h.tidy hq⟩)
      · exact absurd (by decide) c_18
    | succ m ih =>
      intro j v5 cs ss kd hj h1 h2 hkd
      refine kj_iload X dX1_kindOf_15 rfl ?_
      refine kj_iload_n X dX1_kindOf_17 rfl rfl ?_
      refine kj_icmp_ge X 54 dX1_kindOf_18 (by decide) (fun c_18 => ?_) (fun c_18 => ?_)
      · exact absurd c_18 (nI_ge (b := 9) (by omega) (by decide))
      refine kj_aload_n X dX1_kindOf_21 rfl rfl (by first | exact ⟨some _, rfl⟩ | exact ⟨none, rfl⟩ | exact ⟨_, rfl⟩) ?_
      refine kj_iload X dX1_kindOf_22 rfl ?_
      refine kj_cald X dX1_kindOf_24 (fun H h => h.own (ka)) (vp_in_nI (N := 9) (by omega) (by decide)) ?_
      rw [nI_clamp (by omega : j < 2 ^ 31), show kr_lpre 9 j = kr_let.getD j 0 from if_pos (by omega)]
      have hfk := fKind_let j (by omega)
      refine kj_istore (lv' := [_, _, _, _, _, _]) X dX1_kindOf_25 (by decide) (by intro w h _; cases h <;> first | rfl | exact kr_cat _) rfl ?_
      refine kj_iload X dX1_kindOf_27 rfl ?_
      refine kj_iconst (v := 1) X dX1_kindOf_29 (by decide) ?_
      refine kj_callS X 2 (ct_X1_roomFor X.F hg (m := 1) (by decide) hfk (by omega)) (lw_S q1015 q1016 q43 q1017) ⟨by decide, by decide, by decide +kernel⟩ dX1_kindOf_30 rfl rfl (by first | exact Nat.le_of_ble_eq_true rfl | simp [kr_cat, Value.category]) ⟨Nat.le_of_ble_eq_true rfl, Nat.le_of_ble_eq_true rfl⟩ ⟨by dsimp only; omega, by dsimp only; omega⟩ (fun E => kjx_no) (fun v_30 => ?_)
      refine kj_open (fun qr hqr => ?_)
      obtain ⟨hv, hqr⟩ := hqr
      subst hv
      rw [show (some (Value.ref qr)).toList = [Value.ref (gA g (40, qr))] from by rw [(hg.1 qr).1]; rfl]
      have kz : kr_cells G g S (kr_up (kr_up Z (40, q) (kr_ai G 4 9 (kr_lpre 9))) (40, qr) (kr_rm G (8 + j) 1 (fun _ => none))) (40, qr) = kr_rm G (8 + j) 1 (fun _ => none) := by rw [kc_Zt, kr_up_s]
      refine kj_iconst (v := 0) X dX1_kindOf_33 (by decide) ?_
      refine kj_aload_n X dX1_kindOf_34 rfl rfl (by first | exact ⟨some _, rfl⟩ | exact ⟨none, rfl⟩ | exact ⟨_, rfl⟩) ?_
      refine kj_callSH X 3 (ct_X1_isStored X.F hb (t := 8 + j) (by omega) kz (k17 _) (vp_in_nI (n := 0) (N := 1) (by decide) (by decide))) (lw_SW q1027 q1028 q43 q1029) ⟨by decide, by decide, by decide +kernel⟩ dX1_kindOf_35 rfl rfl (by first | exact Nat.le_of_ble_eq_true rfl | simp [kr_cat, Value.category]) ⟨Nat.le_of_ble_eq_true rfl, Nat.le_of_ble_eq_true rfl⟩ ⟨by dsimp only; omega, by dsimp only; omega⟩ (fun E => kjx_no) (fun v_35 => ?_)
      refine kj_and (fun e_35 => ?_)
      subst e_35
      rw [kc_upt, kr_up_up]
      refine kj_P (P' := kr_S G (gA g) (kr_cells G g S (kr_up Z (40, q) (kr_ai G 4 9 (kr_lpre 9))))) (fun H h => h.tidy hqr) ?_
      by_cases e : sN S 12 b = 8 + j
      · rw [if_pos e]
        refine kj_if_eq X 46 dX1_kindOf_38 (by decide) (fun c_38 => ?_) (fun c_38 => ?_)
        · exact absurd c_38 (by decide)
        refine kj_iload X dX1_kindOf_41 rfl ?_
        refine kj_goto X 47 dX1_kindOf_43 (by decide) ?_
        refine kj_istore_n (lv' := [_, _, _, _, _, _]) X dX1_kindOf_47 rfl (by decide) (by intro w h _; cases h <;> first | rfl | exact kr_cat _) rfl ?_
        refine kj_iinc (lv' := [_, _, _, _, _, _]) (w := nI (j + 1)) X dX1_kindOf_48 (by decide) rfl (by intro w h _; cases h <;> first | rfl | exact kr_cat _) (nI_1 j) rfl ?_
        refine kj_goto X 15 dX1_kindOf_51 (by decide) ?_
        exact ih (j + 1) _ _ _ _ (by omega) (by omega) (by omega) (fun _ => by rw [e]; unfold fLet; rw [show 8 + j - 8 = j by omega])
      · rw [if_neg e]
        refine kj_if_eq X 46 dX1_kindOf_38 (by decide) (fun c_38 => ?_) (fun c_38 => ?_)
        · refine kj_iload_n X dX1_kindOf_46 rfl rfl ?_
          refine kj_istore_n (lv' := [_, _, _, _, _, _]) X dX1_kindOf_47 rfl (by decide) (by intro w h _; cases h <;> first | rfl | exact kr_cat _) rfl ?_
          refine kj_iinc (lv' := [_, _, _, _, _, _]) (w := nI (j + 1)) X dX1_kindOf_48 (by decide) rfl (by intro w h _; cases h <;> first | rfl | exact kr_cat _) (nI_1 j) rfl ?_
          refine kj_goto X 15 dX1_kindOf_51 (by decide) ?_
          exact ih (j + 1) _ _ _ _ (by omega) (by omega) (by omega) (fun z => hkd (by omega))
        · exact absurd rfl c_38
  exact loop 9 0 none 1 9 115 (by decide) (by decide) (by decide) (fun z => absurd z (Nat.not_lt_zero _))
def oCut (S : kr_St) (i m : Nat) : kr_St := uL (uL S 0 i ((sL S 0 i).eraseIdx m)) 1 i ((sL S 0 i).eraseIdx m)
theorem oCut_N (S : kr_St) (i m a b : Nat) : sN (oCut S i m) a b = sN S a b := rfl
theorem oCut_I (S : kr_St) (i m a b : Nat) : sI (oCut S i m) a b = sI S a b := rfl
theorem oCut_D (S : kr_St) (i m : Nat) : sD (oCut S i m) = sD S := rfl
theorem oCut_L (S : kr_St) (i m a b : Nat) : sL (oCut S i m) a b = if (a = 0 ∨ a = 1) ∧ b = i then (sL S 0 i).eraseIdx m else sL S a b := by
  unfold oCut
  rw [sL_uL, sL_uL]
  by_cases h1 : a = 1 ∧ b = i
  · rw [if_pos h1, if_pos ⟨Or.inr h1.1, h1.2⟩]
  · rw [if_neg h1]
    by_cases h0 : a = 0 ∧ b = i
    · rw [if_pos h0, if_pos ⟨Or.inl h0.1, h0.2⟩]
    · rw [if_neg h0, if_neg (fun z => z.1.elim (fun y => h0 ⟨y, z.2⟩) (fun y => h1 ⟨y, z.2⟩))]
theorem oCut_I3 {S : kr_St} {i m : Nat} (hI : kr_I S) : kr_I (uL S 0 i ((sL S 0 i).eraseIdx m)) := by
  obtain ⟨i1, i2, i3, i4⟩ := hI
  refine ⟨i1, i2, fun j hj b hb => ?_, i4⟩
  rw [sL_uL] at hb
  split at hb
  · rename_i e
    obtain ⟨-, rfl⟩ := e
    exact i3 j hj b (List.mem_of_mem_eraseIdx hb)
  · exact i3 j hj b hb
theorem oCut_V {S : kr_St} {i m : Nat} (h : kr_V S) : kr_V (oCut S i m) := by
  obtain ⟨h1, hI, h3, h4, h5, h6, h7⟩ := h
  refine ⟨h1, oCut_I3 hI, fun j hj => ?_, h4, fun p hp => ?_, h6, h7⟩
  · rw [oCut_L, oCut_L]
    by_cases e : j = i
    · rw [if_pos ⟨Or.inl rfl, e⟩, if_pos ⟨Or.inr rfl, e⟩]
      refine ⟨Nat.le_trans (List.length_eraseIdx_le ..) ?_, rfl⟩
      rw [← e]
      exact (h3 j hj).1
    · rw [if_neg (fun z => e z.2), if_neg (fun z => e z.2)]
      exact h3 j hj
  · obtain ⟨a1, a2, a3, a5, a6⟩ := h5 p hp
    refine ⟨a1, a2, a3, a5, fun d hd => ?_⟩
    obtain ⟨f1, f2, f3, t, f4, f5⟩ := a6 d hd
    refine ⟨f1, ?_, fun b hb => ?_, t, f4, f5⟩
    · rw [oCut_L, if_neg (fun z => by omega)]
      exact f2
    · rw [oCut_L, if_neg (fun z => by omega)] at hb
      exact f3 b hb
def kx_cut (S : kr_St) (i p : Int32) (E : String) : Prop := (¬ (0 ≤ i ∧ i < nI (sN S 0 0)) ∧ E = kE_I) ∨ ∃ k, i = nI k ∧ k < sN S 0 0 ∧ ¬ (0 ≤ p ∧ p < nI (sL S 0 k).length) ∧ E = kE_I
theorem ct_X1_cut (hF : kr_F G l) (hg : kr_gok g) (hV : kr_V S) (hZ : ∀ r z, Z r ≠ some (.inr z)) (i p : Int32) : kr_T G l yX1_cut (ws_ yX1_cut cX1_cut 5 (Option.some Jvm.ClassFile.FieldType.char)) 10 10600 [.ref (gA g (0, 0)), .int i, .int p] (kr_S G (gA g) (kr_cells G g S Z)) 40 500 (fun v H => ∃ a : Nat × Nat × Nat, (i = nI a.1 ∧ a.1 < sN S 0 0 ∧ p = nI a.2.1 ∧ (sL S 0 a.1)[a.2.1]? = some a.2.2 ∧ v = some (.int (fLet (sN S 12 a.2.2)))) ∧ kr_Hx G [3, 4] g (oCut S a.1 a.2.1) Z H) (fun E H => kx_cut S i p E ∧ kr_S G (gA g) (kr_cells G g S Z) H) := by
  have hL8 : sN S 0 0 ≤ 8 := hV.1.1
  refine kr_T.of (by decide +kernel) hF (by simp [Value.category]) (Nat.le_of_ble_eq_true rfl) (fun x hx X => ?_)
  refine kj_aload_n X dX1_cut_0 rfl rfl (by first | exact ⟨some _, rfl⟩ | exact ⟨none, rfl⟩ | exact ⟨_, rfl⟩) ?_
  refine kj_iload_n X dX1_cut_1 rfl rfl ?_
  refine kj_callV X 1 (ct_X1_listAt X.F i hL8) (lw_V q564 q566 qs6 q43 q567) ⟨rfl, by decide, by decide, by decide +kernel⟩ dX1_cut_2 rfl rfl (by first | exact Nat.le_of_ble_eq_true rfl | simp [kr_cat, Value.category]) ⟨Nat.le_of_ble_eq_true rfl, Nat.le_of_ble_eq_true rfl⟩ ⟨by dsimp only; omega, by dsimp only; omega⟩ kc_X1.1 (fun H h => h.rc (kc_kio)) (fun E => kjx_out X (by omega) (by omega) (fun H h => ⟨Or.inl h.1, h.2⟩)) (fun v_2 => ?_)
  refine kj_open (fun k hk => ?_)
  obtain ⟨rfl, hk, rfl⟩ := hk
  have hlen : (sL S 0 k).length ≤ 20 := (hV.2.2.1 k hk).1
  refine kj_astore_n (lv' := [_, _, _, _, _]) X dX1_cut_5 rfl (by decide) (by intro w h _; cases h <;> first | rfl | exact kr_cat _) (by first | exact ⟨some _, rfl⟩ | exact ⟨none, rfl⟩ | exact ⟨_, rfl⟩) rfl ?_
  refine kj_iload_n X dX1_cut_6 rfl rfl ?_
  refine kj_aload_n X dX1_cut_7 rfl rfl (by first | exact ⟨some _, rfl⟩ | exact ⟨none, rfl⟩ | exact ⟨_, rfl⟩) ?_
  refine kj_getN X kc_X4 0 (by decide) q515 rfl dX1_cut_8 (fun H h => h.own (kc_2 hk)) rfl ?_
  refine kj_callF X 0 (ct_J2_size X.F (kc_3 hk)) q478 q481 q483 q46 q485 q480 q479 q484 q482 q148 ⟨by decide, by decide, by decide +kernel⟩ dX1_cut_11 rfl rfl (by first | exact Nat.le_of_ble_eq_true rfl | simp [kr_cat, Value.category]) ⟨Nat.le_of_ble_eq_true rfl, Nat.le_of_ble_eq_true rfl⟩ ⟨by dsimp only; omega, by dsimp only; omega⟩ kc_J2.1 (fun H h => h.list (kc_3 hk)) (fun E => kjx_no) (fun v_11 => ?_)
  refine kj_and (fun e_11 => ?_)
  subst e_11
  rw [show (sL S 0 k, gM g (3, k), gC g (3, k)).1.length = (sL S 0 k).length from rfl]
  refine kj_callS X 2 (ct_X1_requireIndex X.F p (nI (sL S 0 k).length) (kr_S G (gA g) (kr_cells G g S Z)) kr_S.mono) (lw_S q568 q569 q43 q570) ⟨by decide, by decide, by decide +kernel⟩ dX1_cut_16 rfl rfl (by first | exact Nat.le_of_ble_eq_true rfl | simp [kr_cat, Value.category]) ⟨Nat.le_of_ble_eq_true rfl, Nat.le_of_ble_eq_true rfl⟩ ⟨by dsimp only; omega, by dsimp only; omega⟩ (fun E => kjx_out X (by omega) (by omega) (fun H h => ⟨Or.inr ⟨k, rfl, hk, h.1, h.2.1⟩, h.2.2⟩)) (fun v_16 => ?_)
  refine kj_and (fun hr => ?_)
  refine kj_and (fun e => ?_)
  subst e
  obtain ⟨m, rfl, hm⟩ := kr_ix hr (by omega)
  have hbm : (sL S 0 k)[m]? = some (sL S 0 k)[m] := List.getElem?_eq_getElem hm
  have hcb := hV.2.1.2.2.1 k hk _ (List.getElem_mem hm)
  generalize (sL S 0 k)[m] = b at hbm hcb
  obtain ⟨C, T, N, k1, k2⟩ := kr_castL _ hcb.1 hcb.2
  have k17 : ∀ g1 S1 Z1, sN S1 12 b = sN S 12 b → kr_cells G g1 S1 Z1 (17, b) = kr_o (sN S 12 b) [.int (sI S1 6 b)] := fun g1 S1 Z1 e => by rw [kc_17 (by omega), e]
  refine kj_aload_n X dX1_cut_19 rfl rfl (by first | exact ⟨some _, rfl⟩ | exact ⟨none, rfl⟩ | exact ⟨_, rfl⟩) ?_
  refine kj_getN X kc_X4 0 (by decide) q515 rfl dX1_cut_20 (fun H h => h.own (kc_2 hk)) rfl ?_
  refine kj_iload_n X dX1_cut_23 rfl rfl ?_
  refine kj_callF X 1 (ct_J2_remove X.F (kc_3 hk) (k := m) (o := gA g (17, b)) (by rw [(hg.1 b).2]; exact hbm)) q978 q981 q983 q46 q985 q980 q979 q984 q982 q148 ⟨by decide, by decide, by decide +kernel⟩ dX1_cut_24 rfl rfl (by first | exact Nat.le_of_ble_eq_true rfl | simp [kr_cat, Value.category]) ⟨Nat.le_of_ble_eq_true rfl, Nat.le_of_ble_eq_true rfl⟩ ⟨by dsimp only; omega, by dsimp only; omega⟩ kc_J2.1 (fun H h => h.list (kc_3 hk)) (fun E => kjx_no) (fun v_24 => ?_)
  refine kj_and (fun e_24 => ?_)
  subst e_24
  refine kj_P (P' := kr_S G (gA (gL g (3, k) (gM g (3, k) + 1) (gC g (3, k)))) (kr_cells G (gL g (3, k) (gM g (3, k) + 1) (gC g (3, k))) (uL S 0 k ((sL S 0 k).eraseIdx m)) Z)) (fun H h => by rw [← kl_3 hk]; exact h) ?_
  have hs2 : kr_gsm [3] g (gL g (3, k) (gM g (3, k) + 1) (gC g (3, k))) := kr_gsm_gL (r := (3, k))
  have hok2 : kr_gok (gL g (3, k) (gM g (3, k) + 1) (gC g (3, k))) := kr_gok_gL hg (hg.2.1 _)
  rw [show gA g = gA (gL g (3, k) (gM g (3, k) + 1) (gC g (3, k))) from rfl]
  generalize gL g (3, k) (gM g (3, k) + 1) (gC g (3, k)) = g2 at *
  have hkT : k < sN (uL S 0 k ((sL S 0 k).eraseIdx m)) 0 0 := hk
  have hI2 := oCut_I3 (i := k) (m := m) hV.2.1
  have hl0 : sL (uL S 0 k ((sL S 0 k).eraseIdx m)) 0 k = (sL S 0 k).eraseIdx m := by rw [sL_uL, if_pos ⟨rfl, rfl⟩]
  refine kj_ccast X k1 q990 k2 dX1_cut_29 (fun H h => h.at (k17 g2 (uL S 0 k ((sL S 0 k).eraseIdx m)) Z rfl)) ?_
  refine kj_astore (lv' := [_, _, _, _, _]) X dX1_cut_32 (by decide) (by intro w h _; cases h <;> first | rfl | exact kr_cat _) (by first | exact ⟨some _, rfl⟩ | exact ⟨none, rfl⟩ | exact ⟨_, rfl⟩) rfl ?_
  refine kj_aload_n X dX1_cut_34 rfl rfl (by first | exact ⟨some _, rfl⟩ | exact ⟨none, rfl⟩ | exact ⟨_, rfl⟩) ?_
  refine kj_callV X 0 (ct_X4_change X.F hok2 hkT hI2 (by rw [hl0]; exact Nat.le_trans (List.length_eraseIdx_le ..) hlen) hZ) (lw_V q962 q963 q964 q57 q965) ⟨rfl, by decide, by decide, by decide +kernel⟩ dX1_cut_35 rfl rfl (by first | exact Nat.le_of_ble_eq_true rfl | simp [kr_cat, Value.category]) ⟨Nat.le_of_ble_eq_true rfl, Nat.le_of_ble_eq_true rfl⟩ ⟨by dsimp only; omega, by dsimp only; omega⟩ kc_X4.1 (fun H h => h.rc (kc_2 hkT)) (fun E => kjx_no) (fun v_35 => ?_)
  refine kj_and (fun e_35 => ?_)
  subst e_35
  rw [hl0]
  refine kj_open (fun g3 hg3 => ?_)
  refine kj_P (P' := kr_S G (gA g3) (kr_cells G g3 (oCut S k m) Z)) (fun H h => h) ?_
  rw [show gA g2 (17, b) = gA g3 (17, b) from by rw [(hok2.1 b).2, (hg3.2.1 b).2]]
  refine kj_aload X dX1_cut_38 rfl (by first | exact ⟨some _, rfl⟩ | exact ⟨none, rfl⟩ | exact ⟨_, rfl⟩) ?_
  refine kj_callS X 1 (ct_X1_kindOf (S := oCut S k m) X.F hg3.2 (b := b) hcb) (lw_S q991 q992 q43 q993) ⟨by decide, by decide, by decide +kernel⟩ dX1_cut_40 rfl rfl (by first | exact Nat.le_of_ble_eq_true rfl | simp [kr_cat, Value.category]) ⟨Nat.le_of_ble_eq_true rfl, Nat.le_of_ble_eq_true rfl⟩ ⟨by dsimp only; omega, by dsimp only; omega⟩ (fun E => kjx_no) (fun v_40 => ?_)
  refine kj_and (fun e_40 => ?_)
  subst e_40
  exact kj_zret X (fLet_nar _ (by show sN S 12 b - 8 < 9; omega)) dX1_cut_43 (by omega) (by omega) (fun H h => ⟨(k, m, b), ⟨rfl, hk, rfl, hbm, rfl⟩, kr_Hx.of h (hs2.tr hg3.1 (by simp) (by simp)) hg3.2⟩)
def nKind (S : kr_St) (k t : Nat) : Nat := (sL S 0 k).countP (fun q => decide (sN S 12 q = t))
def kx_lines (S : kr_St) (i c : Int32) (E : String) : Prop := (¬ (0 ≤ i ∧ i < nI (sN S 0 0)) ∧ E = kE_I) ∨ ((0 ≤ i ∧ i < nI (sN S 0 0)) ∧ fKind c = 0 ∧ E = kE_A)
theorem ct_X1_lines (hF : kr_F G l) (hg : kr_gok g) (hV : kr_V S) (i c : Int32) : kr_T G l yX1_lines (ws_ yX1_lines cX1_lines 8 (Option.some Jvm.ClassFile.FieldType.int)) 10 10600 [.ref (gA g (0, 0)), .int i, .int c] (kr_S G (gA g) (kr_cells G g S Z)) 64 1036 (fun v H => ∃ k, (i = nI k ∧ k < sN S 0 0 ∧ fKind c ≠ 0 ∧ v = some (.int (nI (nKind S k (fKind c))))) ∧ kr_S G (gA g) (kr_cells G g S Z) H) (fun E H => kx_lines S i c E ∧ kr_S G (gA g) (kr_cells G g S Z) H) := by
  have hL8 : sN S 0 0 ≤ 8 := hV.1.1
  refine kr_T.of (by decide +kernel) hF (by simp [Value.category]) (Nat.le_of_ble_eq_true rfl) (fun x hx X => ?_)
  refine kj_aload_n X dX1_lines_0 rfl rfl (by first | exact ⟨some _, rfl⟩ | exact ⟨none, rfl⟩ | exact ⟨_, rfl⟩) ?_
  refine kj_iload_n X dX1_lines_1 rfl rfl ?_
  refine kj_callV X 1 (ct_X1_listAt X.F i hL8) (lw_V q564 q566 qs6 q43 q567) ⟨rfl, by decide, by decide, by decide +kernel⟩ dX1_lines_2 rfl rfl (by first | exact Nat.le_of_ble_eq_true rfl | simp [kr_cat, Value.category]) ⟨Nat.le_of_ble_eq_true rfl, Nat.le_of_ble_eq_true rfl⟩ ⟨by dsimp only; omega, by dsimp only; omega⟩ kc_X1.1 (fun H h => h.rc (kc_kio)) (fun E => kjx_out X (by omega) (by omega) (fun H h => ⟨Or.inl h.1, h.2⟩)) (fun v_2 => ?_)
  refine kj_open (fun k hk => ?_)
  obtain ⟨rfl, hk, rfl⟩ := hk
  have hki : 0 ≤ nI k ∧ nI k < nI (sN S 0 0) := ⟨nI_pos' (by omega), nI_lt hk (by omega)⟩
  have hlen : (sL S 0 k).length ≤ 20 := (hV.2.2.1 k hk).1
  refine kj_astore_n (lv' := [_, _, _, _, _, _, _, _]) X dX1_lines_5 rfl (by decide) (by intro w h _; cases h <;> first | rfl | exact kr_cat _) (by first | exact ⟨some _, rfl⟩ | exact ⟨none, rfl⟩ | exact ⟨_, rfl⟩) rfl ?_
  refine kj_iload_n X dX1_lines_6 rfl rfl ?_
  refine kj_aload_n X dX1_lines_7 rfl rfl (by first | exact ⟨some _, rfl⟩ | exact ⟨none, rfl⟩ | exact ⟨_, rfl⟩) ?_
  refine kj_getN X kc_X4 0 (by decide) q515 rfl dX1_lines_8 (fun H h => h.own (kc_2 hk)) rfl ?_
  refine kj_callF X 0 (ct_J2_size X.F (kc_3 hk)) q478 q481 q483 q46 q485 q480 q479 q484 q482 q148 ⟨by decide, by decide, by decide +kernel⟩ dX1_lines_11 rfl rfl (by first | exact Nat.le_of_ble_eq_true rfl | simp [kr_cat, Value.category]) ⟨Nat.le_of_ble_eq_true rfl, Nat.le_of_ble_eq_true rfl⟩ ⟨by dsimp only; omega, by dsimp only; omega⟩ kc_J2.1 (fun H h => h.list (kc_3 hk)) (fun E => kjx_no) (fun v_11 => ?_)
  refine kj_and (fun e_11 => ?_)
  subst e_11
  rw [show (sL S 0 k, gM g (3, k), gC g (3, k)).1.length = (sL S 0 k).length from rfl]
  by_cases hf : fKind c = 0
  · refine kj_callS X 2 (ct_X1_roomFor0 X.F hg (m := (sL S 0 k).length) (by omega) hf) (lw_S q1015 q1016 q43 q1017) ⟨by decide, by decide, by decide +kernel⟩ dX1_lines_16 rfl rfl (by first | exact Nat.le_of_ble_eq_true rfl | simp [kr_cat, Value.category]) ⟨Nat.le_of_ble_eq_true rfl, Nat.le_of_ble_eq_true rfl⟩ ⟨by dsimp only; omega, by dsimp only; omega⟩ (fun E => kjx_no) (fun v_16 => ?_)
    refine kj_and (fun e_16 => ?_)
    subst e_16
    refine kj_astore (lv' := [_, _, _, _, _, _, _, _]) X dX1_lines_19 (by decide) (by intro w h _; cases h <;> first | rfl | exact kr_cat _) (by first | exact ⟨some _, rfl⟩ | exact ⟨none, rfl⟩ | exact ⟨_, rfl⟩) rfl ?_
    refine kj_aload X dX1_lines_21 rfl (by first | exact ⟨some _, rfl⟩ | exact ⟨none, rfl⟩ | exact ⟨_, rfl⟩) ?_
    refine kj_ifnull X (by first | exact Eq.refl (va_rf (some _)) | exact Eq.refl (va_rf none) | exact Eq.refl (va_rf _)) 30 dX1_lines_23 (by decide) (fun c_23 => ?_) (fun a_23 c_23 => ?_)
    · refine kj_iconst (v := 0) X dX1_lines_30 (by decide) ?_
      refine kj_callS X 1 (ct_X1_requireValid X.F false (kr_S G (gA g) (kr_cells G g S Z)) kr_S.mono) (lw_S q697 q698 q43 q699) ⟨by decide, by decide, by decide +kernel⟩ dX1_lines_31 rfl rfl (by first | exact Nat.le_of_ble_eq_true rfl | simp [kr_cat, Value.category]) ⟨Nat.le_of_ble_eq_true rfl, Nat.le_of_ble_eq_true rfl⟩ ⟨by dsimp only; omega, by dsimp only; omega⟩ (fun E => kjx_out X (by omega) (by omega) (fun H h => ⟨Or.inr ⟨hki, hf, h.2.1⟩, h.2.2⟩)) (fun v_31 => ?_)
      refine kj_and (fun z => ?_)
      cases z
    · cases c_23
  obtain ⟨hk8, hk16⟩ := fKind_in hf
  have hnk : fKind c ≠ 0 := hf
  refine kj_callS X 2 (ct_X1_roomFor X.F hg (m := (sL S 0 k).length) (by omega) rfl hf) (lw_S q1015 q1016 q43 q1017) ⟨by decide, by decide, by decide +kernel⟩ dX1_lines_16 rfl rfl (by first | exact Nat.le_of_ble_eq_true rfl | simp [kr_cat, Value.category]) ⟨Nat.le_of_ble_eq_true rfl, Nat.le_of_ble_eq_true rfl⟩ ⟨by dsimp only; omega, by dsimp only; omega⟩ (fun E => kjx_no) (fun v_16 => ?_)
  refine kj_open (fun qr hqr => ?_)
  obtain ⟨hv, hqr⟩ := hqr
  subst hv
  rw [show (some (Value.ref qr)).toList = [Value.ref (gA g (40, qr))] from by rw [(hg.1 qr).1]; rfl]
  refine kj_astore (lv' := [_, _, _, _, _, _, _, _]) X dX1_lines_19 (by decide) (by intro w h _; cases h <;> first | rfl | exact kr_cat _) (by first | exact ⟨some _, rfl⟩ | exact ⟨none, rfl⟩ | exact ⟨_, rfl⟩) rfl ?_
  refine kj_aload X dX1_lines_21 rfl (by first | exact ⟨some _, rfl⟩ | exact ⟨none, rfl⟩ | exact ⟨_, rfl⟩) ?_
  refine kj_ifnull X (by first | exact Eq.refl (va_rf (some _)) | exact Eq.refl (va_rf none) | exact Eq.refl (va_rf _)) 30 dX1_lines_23 (by decide) (fun c_23 => ?_) (fun a_23 c_23 => ?_)
  · cases c_23
  refine kj_iconst (v := 1) X dX1_lines_26 (by decide) ?_
  refine kj_goto X 31 dX1_lines_27 (by decide) ?_
  refine kj_callS X 1 (ct_X1_requireValid X.F true (kr_S G (gA g) (kr_cells G g S (kr_up Z (40, qr) (kr_rm G (fKind c) (sL S 0 k).length (fun _ => none))))) kr_S.mono) (lw_S q697 q698 q43 q699) ⟨by decide, by decide, by decide +kernel⟩ dX1_lines_31 rfl rfl (by first | exact Nat.le_of_ble_eq_true rfl | simp [kr_cat, Value.category]) ⟨Nat.le_of_ble_eq_true rfl, Nat.le_of_ble_eq_true rfl⟩ ⟨by dsimp only; omega, by dsimp only; omega⟩ (fun E => kjx_pure (fun H h => h.1) (fun z => by cases z)) (fun v_31 => ?_)
  refine kj_and (fun _ => ?_)
  refine kj_and (fun e => ?_)
  subst e
  refine kj_iconst (v := 0) X dX1_lines_34 (by decide) ?_
  refine kj_istore (lv' := [_, _, _, _, _, _, _, _]) X dX1_lines_35 (by decide) (by intro w h _; cases h <;> first | rfl | exact kr_cat _) rfl ?_
  refine kj_aload_n X dX1_lines_37 rfl rfl (by first | exact ⟨some _, rfl⟩ | exact ⟨none, rfl⟩ | exact ⟨_, rfl⟩) ?_
  refine kj_getN X kc_X4 0 (by decide) q515 rfl dX1_lines_38 (fun H h => h.own (kc_2 hk)) rfl ?_
  refine kj_callF X 0 (ct_J2_iterator X.F hg.1 (Or.inl ⟨_, kc_3 hk⟩)) q262 q265 q267 q46 q269 q264 q263 q268 q266 q148 ⟨by decide, by decide, by decide +kernel⟩ dX1_lines_41 rfl rfl (by first | exact Nat.le_of_ble_eq_true rfl | simp [kr_cat, Value.category]) ⟨Nat.le_of_ble_eq_true rfl, Nat.le_of_ble_eq_true rfl⟩ ⟨by dsimp only; omega, by dsimp only; omega⟩ kc_J2.1 (fun H h => h.list (kc_3 hk)) (fun E => kjx_no) (fun v_41 => ?_)
  refine kj_open (fun qi hqi => ?_)
  obtain ⟨hv, hqi⟩ := hqi
  subst hv
  rw [kc_Zt] at hqi
  rw [kc_upt]
  have hne : qi ≠ qr := fun z => by rw [z, kr_up_s] at hqi; cases hqi
  have hqi' : Z (40, qi) = none := by rw [kr_up_n (fun z => hne (Prod.mk.inj z).2)] at hqi; exact hqi
  have hqr' : ∀ e : Option kr_AE, kr_up Z (40, qi) e (40, qr) = none := fun e => by rw [kr_up_n (fun z => hne (Prod.mk.inj z).2.symm)]; exact hqr
  rw [show (some (Value.ref qi)).toList = [Value.ref (gA g (40, qi))] from by rw [(hg.1 qi).1]; rfl]
  rw [kr_up_sw (fun z => hne (Prod.mk.inj z).2)]
  refine kj_astore (lv' := [_, _, _, _, _, _, _, _]) X dX1_lines_46 (by decide) (by intro w h _; cases h <;> first | rfl | exact kr_cat _) (by first | exact ⟨some _, rfl⟩ | exact ⟨none, rfl⟩ | exact ⟨_, rfl⟩) rfl ?_
  have loop : ∀ m j lr v7 f cs ss, j + m = (sL S 0 k).length → cs + 3 * m ≤ 64 → ss + 50 * m ≤ 1036 → kr_J G x 8 (kr_Q G x 64 1036 (fun v H => ∃ k', (nI k = nI k' ∧ k' < sN S 0 0 ∧ fKind c ≠ 0 ∧ v = some (.int (nI (nKind S k' (fKind c))))) ∧ kr_S G (gA g) (kr_cells G g S Z) H) (fun E H => kx_lines S (nI k) c E ∧ kr_S G (gA g) (kr_cells G g S Z) H)) (kr_S G (gA g) (kr_cells G g S (kr_up (kr_up Z (40, qi) (some (kr_it (gA g) (3, k) (nI j) lr (gM g (3, k))))) (40, qr) (kr_rm G (fKind c) (sL S 0 k).length f)))) cs ss 48 [some (.ref (gA g (0, 0))), some (.int (nI k)), some (.int c), some (.ref (gA g (2, k))), some (.ref (gA g (40, qr))), some (.int (nI (((sL S 0 k).take j).countP (fun q => decide (sN S 12 q = fKind c))))), some (.ref (gA g (40, qi))), v7] [] := by
    intro m
    induction m with
    | zero =>
      intro j lr v7 f cs ss hj h1 h2
      obtain rfl : j = (sL S 0 k).length := by omega
      have hjt : kr_cells G g S (kr_up (kr_up Z (40, qi) (some (kr_it (gA g) (3, k) (nI (sL S 0 k).length) lr (gM g (3, k))))) (40, qr) (kr_rm G (fKind c) (sL S 0 k).length f)) (40, qi) = some (kr_it (gA g) (3, k) (nI (sL S 0 k).length) lr (gM g (3, k))) := by rw [kc_Zt, kr_up_n (fun z => hne (Prod.mk.inj z).2), kr_up_s]
      refine kj_aload X dX1_lines_48 rfl (by first | exact ⟨some _, rfl⟩ | exact ⟨none, rfl⟩ | exact ⟨_, rfl⟩) ?_
      refine kj_callF X 0 (ct_J22_hasNext X.F (Or.inl ⟨_, kc_3 hk⟩) (Nat.le_refl _) (by omega) hjt) q290 q294 q296 q81 q298 q292 q291 q297 q295 q293 ⟨by decide, by decide, by decide +kernel⟩ dX1_lines_50 rfl rfl (by first | exact Nat.le_of_ble_eq_true rfl | simp [kr_cat, Value.category]) ⟨Nat.le_of_ble_eq_true rfl, Nat.le_of_ble_eq_true rfl⟩ ⟨by dsimp only; omega, by dsimp only; omega⟩ kc_J22.1 (fun H h => h.rc (hjt)) (fun E => kjx_no) (fun v_50 => ?_)
      refine kj_and (fun e_50 => ?_)
      subst e_50
      rw [show decide ((sL S 0 k).length < (sL S 0 k).length) = false from decide_eq_false (Nat.lt_irrefl _)]
      refine kj_if_eq X 95 dX1_lines_55 (by decide) (fun c_55 => ?_) (fun c_55 => ?_)
      · rw [List.take_length]
        refine kj_iload X dX1_lines_95 rfl ?_
        exact kj_iret X dX1_lines_97 (by omega) (by omega) (fun H h => ⟨k, ⟨rfl, hk, hnk, rfl⟩, (h.tidy (hqr' _)).tidy hqi'⟩)
      · exact absurd rfl c_55
    | succ m ih =>
      intro j lr v7 f cs ss hj h1 h2
      have hlt : j < (sL S 0 k).length := by omega
      have hb : (sL S 0 k)[j]? = some (sL S 0 k)[j] := List.getElem?_eq_getElem hlt
      have hcb := hV.2.1.2.2.1 k hk _ (List.getElem_mem hlt)
      have htk : (sL S 0 k).take (j + 1) = (sL S 0 k).take j ++ [(sL S 0 k)[j]] := List.take_succ_eq_append_getElem hlt
      generalize (sL S 0 k)[j] = b at hb hcb htk
      obtain ⟨C, T, N, k1, k2⟩ := kr_castL _ hcb.1 hcb.2
      have k17 : ∀ Z1, kr_cells G g S Z1 (17, b) = kr_o (sN S 12 b) [.int (sI S 6 b)] := fun Z1 => kc_17 (by omega)
      have hle : ((sL S 0 k).take j).countP (fun q => decide (sN S 12 q = fKind c)) ≤ j := Nat.le_trans List.countP_le_length (by rw [List.length_take]; omega)
      have hjt : kr_cells G g S (kr_up (kr_up Z (40, qi) (some (kr_it (gA g) (3, k) (nI j) lr (gM g (3, k))))) (40, qr) (kr_rm G (fKind c) (sL S 0 k).length f)) (40, qi) = some (kr_it (gA g) (3, k) (nI j) lr (gM g (3, k))) := by rw [kc_Zt, kr_up_n (fun z => hne (Prod.mk.inj z).2), kr_up_s]
      refine kj_aload X dX1_lines_48 rfl (by first | exact ⟨some _, rfl⟩ | exact ⟨none, rfl⟩ | exact ⟨_, rfl⟩) ?_
      refine kj_callF X 0 (ct_J22_hasNext X.F (Or.inl ⟨_, kc_3 hk⟩) (Nat.le_of_lt hlt) (by omega) hjt) q290 q294 q296 q81 q298 q292 q291 q297 q295 q293 ⟨by decide, by decide, by decide +kernel⟩ dX1_lines_50 rfl rfl (by first | exact Nat.le_of_ble_eq_true rfl | simp [kr_cat, Value.category]) ⟨Nat.le_of_ble_eq_true rfl, Nat.le_of_ble_eq_true rfl⟩ ⟨by dsimp only; omega, by dsimp only; omega⟩ kc_J22.1 (fun H h => h.rc (hjt)) (fun E => kjx_no) (fun v_50 => ?_)
      refine kj_and (fun e_50 => ?_)
      subst e_50
      rw [show decide (j < (sL S 0 k).length) = true from decide_eq_true hlt]
      refine kj_if_eq X 95 dX1_lines_55 (by decide) (fun c_55 => ?_) (fun c_55 => ?_)
      · exact absurd c_55 (by decide)
      refine kj_aload X dX1_lines_58 rfl (by first | exact ⟨some _, rfl⟩ | exact ⟨none, rfl⟩ | exact ⟨_, rfl⟩) ?_
      refine kj_callF X 0 (ct_J22_next X.F (kc_3 hk) (a := gA g (17, b)) (by rw [(hg.1 b).2]; exact hb) hjt) q300 q303 q305 q81 q307 q302 q301 q306 q304 q293 ⟨by decide, by decide, by decide +kernel⟩ dX1_lines_60 rfl rfl (by first | exact Nat.le_of_ble_eq_true rfl | simp [kr_cat, Value.category]) ⟨Nat.le_of_ble_eq_true rfl, Nat.le_of_ble_eq_true rfl⟩ ⟨by dsimp only; omega, by dsimp only; omega⟩ kc_J22.1 (fun H h => h.rc (hjt)) (fun E => kjx_no) (fun v_60 => ?_)
      refine kj_and (fun e_60 => ?_)
      subst e_60
      rw [kc_upt, kr_up_abs (fun z => hne (Prod.mk.inj z).2.symm), kr_up_sw (fun z => hne (Prod.mk.inj z).2)]
      have kz : kr_cells G g S (kr_up (kr_up Z (40, qi) (some (kr_it (gA g) (3, k) (nI (j + 1)) (nI j) (gM g (3, k))))) (40, qr) (kr_rm G (fKind c) (sL S 0 k).length f)) (40, qr) = kr_rm G (fKind c) (sL S 0 k).length f := by rw [kc_Zt, kr_up_s]
      refine kj_ccast X k1 q990 k2 dX1_lines_65 (fun H h => h.at (k17 _)) ?_
      refine kj_astore (lv' := [_, _, _, _, _, _, _, _]) X dX1_lines_68 (by decide) (by intro w h _; cases h <;> first | rfl | exact kr_cat _) (by first | exact ⟨some _, rfl⟩ | exact ⟨none, rfl⟩ | exact ⟨_, rfl⟩) rfl ?_
      refine kj_iload X dX1_lines_70 rfl ?_
      refine kj_aload X dX1_lines_72 rfl (by first | exact ⟨some _, rfl⟩ | exact ⟨none, rfl⟩ | exact ⟨_, rfl⟩) ?_
      refine kj_iload X dX1_lines_74 rfl ?_
      refine kj_aload X dX1_lines_76 rfl (by first | exact ⟨some _, rfl⟩ | exact ⟨none, rfl⟩ | exact ⟨_, rfl⟩) ?_
      refine kj_callSH X 3 (ct_X1_isStored X.F hcb (t := fKind c) ⟨hk8, hk16⟩ kz (k17 _) (vp_in_nI (N := (sL S 0 k).length) (by omega) (by omega))) (lw_SW q1027 q1028 q43 q1029) ⟨by decide, by decide, by decide +kernel⟩ dX1_lines_78 rfl rfl (by first | exact Nat.le_of_ble_eq_true rfl | simp [kr_cat, Value.category]) ⟨Nat.le_of_ble_eq_true rfl, Nat.le_of_ble_eq_true rfl⟩ ⟨by dsimp only; omega, by dsimp only; omega⟩ (fun E => kjx_no) (fun v_78 => ?_)
      refine kj_and (fun e_78 => ?_)
      subst e_78
      rw [kc_upt, kr_up_up]
      have ecnt : ((sL S 0 k).take (j + 1)).countP (fun q => decide (sN S 12 q = fKind c)) = ((sL S 0 k).take j).countP (fun q => decide (sN S 12 q = fKind c)) + (if sN S 12 b = fKind c then 1 else 0) := by
        rw [htk, List.countP_append, List.countP_singleton]
        by_cases e : sN S 12 b = fKind c
        · rw [if_pos e, if_pos (decide_eq_true e)]
        · rw [if_neg e, if_neg (by rw [decide_eq_false e]; decide)]
      have nxt := ih (j + 1) (nI j)
      rw [ecnt] at nxt
      by_cases e : sN S 12 b = fKind c
      · simp only [if_pos e] at nxt ⊢
        refine kj_if_eq X 88 dX1_lines_81 (by decide) (fun c_81 => ?_) (fun c_81 => ?_)
        · exact absurd c_81 (by decide)
        refine kj_iconst (v := 1) X dX1_lines_84 (by decide) ?_
        refine kj_goto X 89 dX1_lines_85 (by decide) ?_
        refine kj_iadd X dX1_lines_89 ?_
        rw [nI_1]
        refine kj_istore (lv' := [_, _, _, _, _, _, _, _]) X dX1_lines_90 (by decide) (by intro w h _; cases h <;> first | rfl | exact kr_cat _) rfl ?_
        refine kj_goto X 48 dX1_lines_92 (by decide) ?_
        exact nxt _ _ _ _ (by omega) (by omega) (by omega)
      · simp only [if_neg e, Nat.add_zero] at nxt ⊢
        refine kj_if_eq X 88 dX1_lines_81 (by decide) (fun c_81 => ?_) (fun c_81 => ?_)
        · refine kj_iconst (v := 0) X dX1_lines_88 (by decide) ?_
          refine kj_iadd X dX1_lines_89 ?_
          rw [Int32.add_zero]
          refine kj_istore (lv' := [_, _, _, _, _, _, _, _]) X dX1_lines_90 (by decide) (by intro w h _; cases h <;> first | rfl | exact kr_cat _) rfl ?_
          refine kj_goto X 48 dX1_lines_92 (by decide) ?_
          exact nxt _ _ _ _ (by omega) (by omega) (by omega)
        · exact absurd rfl c_81
  refine loop (sL S 0 k).length 0 (-1) none _ _ _ (by omega) ?_ ?_
  · omega
  · omega
end
