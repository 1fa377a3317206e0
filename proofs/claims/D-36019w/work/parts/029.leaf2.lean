/-! LEAVES 2: GoTo, Loop, Device.free, Free, Visitor -/
set_option maxRecDepth 100000
/-- a ghost's rules: passing roles (40, those that will last: 20); rows of lists have no place or ten and more -/
def kr_gok (g : kr_Gh) : Prop := kr_tmp (gA g) ∧ (∀ r, gC g r = 0 ∨ (10 ≤ gC g r ∧ gC g r ≤ 600)) ∧ ∀ q : Nat, gA g (20, q) = q
/-- other ghosts alike but for the kinds K -/
def kr_gsm (K : List Nat) (g g' : kr_Gh) : Prop := ∀ r : kr_Ro, r.1 ∉ K → gA g' r = gA g r ∧ gM g' r = gM g r
def kr_Hx (G : kr_G) (K : List Nat) (g : kr_Gh) (S : kr_St) (Z : kr_Ro → Option kr_AE) (H : Heap) : Prop := ∃ g' : kr_Gh, (kr_gsm K g g' ∧ kr_gok g') ∧ kr_S G (gA g') (kr_cells G g' S Z) H
theorem kr_gsm.rf {K : List Nat} {g : kr_Gh} : kr_gsm K g g := fun _ _ => ⟨rfl, rfl⟩
theorem kr_gsm.tr {K K1 K2 : List Nat} {g g1 g2 : kr_Gh} (h1 : kr_gsm K1 g g1) (h2 : kr_gsm K2 g1 g2) (e1 : ∀ a ∈ K1, a ∈ K) (e2 : ∀ a ∈ K2, a ∈ K) : kr_gsm K g g2 := fun r hr =>
  ⟨(h2 r fun z => hr (e2 _ z)).1.trans (h1 r fun z => hr (e1 _ z)).1, (h2 r fun z => hr (e2 _ z)).2.trans (h1 r fun z => hr (e1 _ z)).2⟩
theorem kr_gsm.mo {K K1 : List Nat} {g g1 : kr_Gh} (h1 : kr_gsm K1 g g1) (e1 : ∀ a ∈ K1, a ∈ K) : kr_gsm K g g1 := fun r hr => h1 r fun z => hr (e1 _ z)
theorem kr_gsm_gL {g : kr_Gh} {r : kr_Ro} {mc : Int32} {cap : Nat} : kr_gsm [r.1] g (gL g r mc cap) := fun q hq => ⟨rfl, kr_up_n fun z => hq (by rw [z]; exact List.mem_singleton.mpr rfl)⟩
theorem kr_gok_gL {g : kr_Gh} (h : kr_gok g) {r : kr_Ro} {mc : Int32} {cap : Nat} (hc : cap = 0 ∨ (10 ≤ cap ∧ cap ≤ 600)) : kr_gok (gL g r mc cap) := by
  refine ⟨h.1, fun q => ?_, h.2.2⟩
  rw [gC_gL]
  split
  · exact hc
  · exact h.2.1 q
theorem kr_Hx.of {G : kr_G} {K : List Nat} {g g' : kr_Gh} {S : kr_St} {Z : kr_Ro → Option kr_AE} {H : Heap} (h : kr_S G (gA g') (kr_cells G g' S Z) H) (h1 : kr_gsm K g g') (h2 : kr_gok g') : kr_Hx G K g S Z H := ⟨g', ⟨h1, h2⟩, h⟩
section
variable {G : kr_G} {l : Launch} {g g' : kr_Gh} {S S' : kr_St} {Z : kr_Ro → Option kr_AE}
/-- GoTo -/
theorem ct_X10_act (hF : kr_F G l) {p q : Nat} (hp : sN S 15 p = 1) (h1 : 0 < sN S 5 p) (h4 : sN S 5 p ≤ 4) (hq : sN S 12 q = 12) (a0 a1 : Nat) : kr_T G l yX10_act (ws_ yX10_act cX10_act 4 (Option.some Jvm.ClassFile.FieldType.boolean)) 5 250 [.ref (gA g (17, q)), .ref a0, .ref (gA g (7, p)), .ref a1] (kr_S G (gA g) (kr_cells G g S Z)) 0 0 (fun v H => v = some (.int (kr_b true)) ∧ kr_S G (gA g) (kr_cells G g (uI S 5 (kt_top S p) (sI S 6 q)) Z) H) kr_no := by
  have k17 : kr_cells G g S Z (17, q) = kr_o 12 [.int (sI S 6 q)] := by rw [kc_17 (by omega), hq]
  refine kr_T.of (by decide +kernel) hF (by simp [Value.category]) (Nat.le_of_ble_eq_true rfl) (fun x hx X => ?_)
  refine kj_aload_n X dX10_act_0 rfl rfl (by first | exact ⟨some _, rfl⟩ | exact ⟨none, rfl⟩ | exact ⟨_, rfl⟩) ?_
  refine kj_callV X 0 (ct_X16_top X.F hp h1 h4) (lw_V q1332 q1272 q1273 q84 q1274) ⟨rfl, by decide, by decide, by decide +kernel⟩ dX10_act_1 rfl rfl (by first | exact Nat.le_of_ble_eq_true rfl | simp [kr_cat, Value.category]) ⟨Nat.le_of_ble_eq_true rfl, Nat.le_of_ble_eq_true rfl⟩ ⟨by dsimp only; omega, by dsimp only; omega⟩ kc_X16.1 (fun H h => h.rc (kc_7 hp)) (fun E => kjx_no) (fun v_1 => ?_)
  refine kj_and (fun e_1 => ?_)
  subst e_1
  refine kj_aload_n X dX10_act_4 rfl rfl (by first | exact ⟨some _, rfl⟩ | exact ⟨none, rfl⟩ | exact ⟨_, rfl⟩) ?_
  refine kj_getN X kc_X10 0 (by decide) q626 rfl dX10_act_5 (fun H h => h.own (k17)) rfl ?_
  refine kj_putN X kc_X17 2 (by decide) q1124 rfl rfl dX10_act_8 (by first | rfl | exact kr_nar _ _ | exact kr_narb _) (by first | rfl | exact kr_fitr _ _ | exact kr_fitb _) (Nat.le_of_ble_eq_true rfl) (fun H h => h.own (kc_9 (d := sN S 5 p - 1) hp (by omega) (by omega))) (fun H H1 h a u => h.upd (kc_9 (d := sN S 5 p - 1) hp (by omega) (by omega)) (ku_next (d := sN S 5 p - 1) hp (by omega) (by omega)) a u) ?_
  refine kj_iconst (v := 1) X dX10_act_11 (by decide) ?_
  exact kj_zret X rfl dX10_act_12 (by omega) (by omega) (fun H h => ⟨rfl, h⟩)
/-- Loop -/
theorem ct_X12_act (hF : kr_F G l) {p q : Nat} (hp : sN S 15 p = 1) (h1 : 0 < sN S 5 p) (h4 : sN S 5 p ≤ 4) (hq : sN S 12 q = 14) (a0 a1 : Nat) : kr_T G l yX12_act (ws_ yX12_act cX12_act 4 (Option.some Jvm.ClassFile.FieldType.boolean)) 5 250 [.ref (gA g (17, q)), .ref a0, .ref (gA g (7, p)), .ref a1] (kr_S G (gA g) (kr_cells G g S Z)) 0 0 (fun v H => v = some (.int (kr_b true)) ∧ kr_S G (gA g) (kr_cells G g (if sI S 1 p = 0 then uI S 5 (kt_top S p) (sI S 6 q) else uI S 1 p (sI S 1 p - 1)) Z) H) kr_no := by
  have k17 : kr_cells G g S Z (17, q) = kr_o 14 [.int (sI S 6 q)] := by rw [kc_17 (by omega), hq]
  refine kr_T.of (by decide +kernel) hF (by simp [Value.category]) (Nat.le_of_ble_eq_true rfl) (fun x hx X => ?_)
  refine kj_aload_n X dX12_act_0 rfl rfl (by first | exact ⟨some _, rfl⟩ | exact ⟨none, rfl⟩ | exact ⟨_, rfl⟩) ?_
  refine kj_getN X kc_X16 3 (by decide) q1144 rfl dX12_act_1 (fun H h => h.own (kc_7 hp)) rfl ?_
  refine kj_if_ne X 21 dX12_act_4 (by decide) (fun c_4 => ?_) (fun c_4 => ?_)
  · rw [if_neg c_4]
    refine kj_aload_n X dX12_act_21 rfl rfl (by first | exact ⟨some _, rfl⟩ | exact ⟨none, rfl⟩ | exact ⟨_, rfl⟩) ?_
    refine kj_dup X dX12_act_22 (by first | rfl | exact kr_cat _) ?_
    refine kj_getN X kc_X16 3 (by decide) q1144 rfl dX12_act_23 (fun H h => h.own (kc_7 hp)) rfl ?_
    refine kj_iconst (v := 1) X dX12_act_26 (by decide) ?_
    refine kj_isub X dX12_act_27 ?_
    refine kj_putN X kc_X16 3 (by decide) q1144 rfl rfl dX12_act_28 (by first | rfl | exact kr_nar _ _ | exact kr_narb _) (by first | rfl | exact kr_fitr _ _ | exact kr_fitb _) (Nat.le_of_ble_eq_true rfl) (fun H h => h.own (kc_7 hp)) (fun H H1 h a u => h.upd (kc_7 hp) (ku_count hp) a u) ?_
    refine kj_iconst (v := 1) X dX12_act_31 (by decide) ?_
    exact kj_zret X rfl dX12_act_32 (by omega) (by omega) (fun H h => ⟨rfl, h⟩)
  · rw [if_pos c_4]
    refine kj_aload_n X dX12_act_7 rfl rfl (by first | exact ⟨some _, rfl⟩ | exact ⟨none, rfl⟩ | exact ⟨_, rfl⟩) ?_
    refine kj_callV X 0 (ct_X16_top X.F hp h1 h4) (lw_V q1350 q1272 q1273 q84 q1274) ⟨rfl, by decide, by decide, by decide +kernel⟩ dX12_act_8 rfl rfl (by first | exact Nat.le_of_ble_eq_true rfl | simp [kr_cat, Value.category]) ⟨Nat.le_of_ble_eq_true rfl, Nat.le_of_ble_eq_true rfl⟩ ⟨by dsimp only; omega, by dsimp only; omega⟩ kc_X16.1 (fun H h => h.rc (kc_7 hp)) (fun E => kjx_no) (fun v_8 => ?_)
    refine kj_and (fun e_8 => ?_)
    subst e_8
    refine kj_aload_n X dX12_act_11 rfl rfl (by first | exact ⟨some _, rfl⟩ | exact ⟨none, rfl⟩ | exact ⟨_, rfl⟩) ?_
    refine kj_getN X kc_X12 0 (by decide) q628 rfl dX12_act_12 (fun H h => h.own (k17)) rfl ?_
    refine kj_putN X kc_X17 2 (by decide) q1125 rfl rfl dX12_act_15 (by first | rfl | exact kr_nar _ _ | exact kr_narb _) (by first | rfl | exact kr_fitr _ _ | exact kr_fitb _) (Nat.le_of_ble_eq_true rfl) (fun H h => h.own (kc_9 (d := sN S 5 p - 1) hp (by omega) (by omega))) (fun H H1 h a u => h.upd (kc_9 (d := sN S 5 p - 1) hp (by omega) (by omega)) (ku_next (d := sN S 5 p - 1) hp (by omega) (by omega)) a u) ?_
    refine kj_goto X 31 dX12_act_18 (by decide) ?_
    refine kj_iconst (v := 1) X dX12_act_31 (by decide) ?_
    exact kj_zret X rfl dX12_act_32 (by omega) (by omega) (fun H h => ⟨rfl, h⟩)
theorem kr_S.injp {H : Heap} (h : kr_S G (gA g) (kr_cells G g S Z) H) {i j : Nat} (hi : sN S 15 i = 1) (hj : sN S 15 j = 1) (e : gA g (7, i) = gA g (7, j)) : i = j := by
  have h1 := h.inj (i := (7, i)) (j := (7, j)) (by rw [kc_7 hi]; exact fun z => by cases z) (by rw [kc_7 hj]; exact fun z => by cases z) e
  exact (Prod.mk.inj h1).2
theorem kr_S.isp {H : Heap} (h : kr_S G (gA g) (kr_cells G g S Z) H) {n p : Nat} (hn : ∀ j, n = j + 1 → sN S 15 j = 1) (hp : sN S 15 p = 1) : kr_op (fun i => gA g (7, i)) n = some (gA g (7, p)) ↔ n = p + 1 := by
  cases n with
  | zero => simp
  | succ j =>
    constructor
    · intro e
      rw [h.injp (hn j rfl) hp (Option.some.inj e)]
    · intro e
      obtain rfl : j = p := by omega
      rfl
/-- a device is given to the next -/
def oF (S : kr_St) (d : Nat) : kr_St := match sL S 3 d with
  | [] => uN S 9 d 0
  | p :: ps => uN (uN (uL S 3 d ps) 9 d (p + 1)) 8 p 0
theorem ct_X2_free (hF : kr_F G l) (hg : kr_gok g) {d : Nat} (hd : d < sN S 14 0) (hl : (sL S 3 d).length < 2 ^ 31) (hpx : ∀ p ∈ sL S 3 d, sN S 15 p = 1) : kr_T G l yX2_free (ws_ yX2_free cX2_free 1 (Option.none : Option Jvm.ClassFile.FieldType)) 6 300 [.ref (gA g (11, d))] (kr_S G (gA g) (kr_cells G g S Z)) 0 0 (fun v H => v = none ∧ kr_Hx G [12] g (oF S d) Z H) kr_no := by
  refine kr_T.of (by decide +kernel) hF (by simp [Value.category]) (Nat.le_of_ble_eq_true rfl) (fun x hx X => ?_)
  refine kj_aload_n X dX2_free_0 rfl rfl (by first | exact ⟨some _, rfl⟩ | exact ⟨none, rfl⟩ | exact ⟨_, rfl⟩) ?_
  refine kj_aload_n X dX2_free_1 rfl rfl (by first | exact ⟨some _, rfl⟩ | exact ⟨none, rfl⟩ | exact ⟨_, rfl⟩) ?_
  refine kj_get X kc_X2 0 (by decide) q134 (Or.inl rfl) dX2_free_2 (fun H h => h.own (kc_11 hd)) rfl ?_
  refine kj_callF X 0 (ct_J2_isEmpty X.F (kc_12 hd) (by rw [List.length_map]; exact hl)) q1218 q1221 q1223 q46 q1225 q1220 q1219 q1224 q1222 q148 ⟨by decide, by decide, by decide +kernel⟩ dX2_free_5 rfl rfl (by first | exact Nat.le_of_ble_eq_true rfl | simp [kr_cat, Value.category]) ⟨Nat.le_of_ble_eq_true rfl, Nat.le_of_ble_eq_true rfl⟩ ⟨by dsimp only; omega, by dsimp only; omega⟩ kc_J2.1 (fun H h => h.list (kc_12 hd)) (fun E => kjx_no) (fun v_5 => ?_)
  refine kj_and (fun e_5 => ?_)
  subst e_5
  unfold oF
  cases hq : sL S 3 d with
  | nil =>
    rw [show kr_b (decide (List.map (fun i => gA g (7, i)) [] = [])) = 1 from rfl]
    refine kj_if_eq X 17 dX2_free_10 (by decide) (fun c_10 => ?_) (fun c_10 => ?_)
    · exact absurd c_10 (by decide)
    refine kj_null X dX2_free_13 ?_
    refine kj_goto X 30 dX2_free_14 (by decide) ?_
    refine kj_put X kc_X2 1 (by decide) q137 (Or.inl rfl) rfl dX2_free_30 (by first | rfl | exact kr_nar _ _ | exact kr_narb _) (by first | rfl | exact kr_fitr _ _ | exact kr_fitb _) (Nat.le_of_ble_eq_true rfl) (fun H h => h.own (kc_11 hd)) (fun H H1 h a u => h.upd (kc_11 hd) (ku_hold (v := 0) hd) a u) ?_
    refine kj_aload_n X dX2_free_33 rfl rfl (by first | exact ⟨some _, rfl⟩ | exact ⟨none, rfl⟩ | exact ⟨_, rfl⟩) ?_
    refine kj_get X kc_X2 1 (by decide) q137 (Or.inl rfl) dX2_free_34 (fun H h => h.own (kc_11 (k := d) hd)) rfl ?_
    refine kj_ifnull X (r := none) (by rw [sN_uN, if_pos ⟨rfl, rfl⟩]) 48 dX2_free_37 (by decide) (fun c_37 => ?_) (fun a_37 c_37 => ?_)
    · exact kj_vret X dX2_free_48 (by omega) (by omega) (fun H h => ⟨rfl, kr_Hx.of h kr_gsm.rf hg⟩)
    · cases c_37
  | cons p ps =>
    have hp : sN S 15 p = 1 := hpx p (by rw [hq]; exact List.mem_cons_self)
    rw [show kr_b (decide (List.map (fun i => gA g (7, i)) (p :: ps) = [])) = 0 from rfl]
    refine kj_if_eq X 17 dX2_free_10 (by decide) (fun c_10 => ?_) (fun c_10 => ?_)
    rotate_left
    · exact absurd rfl c_10
    have h12 : kr_cells G g S Z (12, d) = some (.inr ((p :: ps).map (fun i => gA g (7, i)), gM g (12, d), gC g (12, d))) := by rw [kc_12 hd, hq]
    refine kj_aload_n X dX2_free_17 rfl rfl (by first | exact ⟨some _, rfl⟩ | exact ⟨none, rfl⟩ | exact ⟨_, rfl⟩) ?_
    refine kj_get X kc_X2 0 (by decide) q134 (Or.inl rfl) dX2_free_18 (fun H h => h.own (kc_11 hd)) rfl ?_
    refine kj_iconst (v := 0) X dX2_free_21 (by decide) ?_
    refine kj_callF X 1 (ct_J2_remove X.F h12 (k := 0) (o := gA g (7, p)) rfl) q1227 q981 q983 q46 q985 q980 q979 q984 q982 q148 ⟨by decide, by decide, by decide +kernel⟩ dX2_free_22 rfl rfl (by first | exact Nat.le_of_ble_eq_true rfl | simp [kr_cat, Value.category]) ⟨Nat.le_of_ble_eq_true rfl, Nat.le_of_ble_eq_true rfl⟩ ⟨by dsimp only; omega, by dsimp only; omega⟩ kc_J2.1 (fun H h => h.list (h12)) (fun E => kjx_no) (fun v_22 => ?_)
    refine kj_and (fun e_22 => ?_)
    subst e_22
    refine kj_P (P' := kr_S G (gA g) (kr_cells G (gL g (12, d) (gM g (12, d) + 1) (gC g (12, d))) (uL S 3 d ps) Z)) (fun H h => ?_) ?_
    · rw [← kl_12 hd]
      exact h
    refine kj_ccastR X kc_X16.1 q1228 dX2_free_27 (fun H h => h.at (kc_7 (k := p) hp)) ?_
    refine kj_put X kc_X2 1 (by decide) q137 (Or.inl rfl) rfl dX2_free_30 (by first | rfl | exact kr_nar _ _ | exact kr_narb _) (by first | rfl | exact kr_fitr _ _ | exact kr_fitb _) (Nat.le_of_ble_eq_true rfl) (fun H h => h.own (kc_11 (k := d) hd)) (fun H H1 h a u => h.upd (kc_11 (k := d) hd) (ku_hold (S := uL S 3 d ps) (k := d) (v := p + 1) hd) a u) ?_
    refine kj_aload_n X dX2_free_33 rfl rfl (by first | exact ⟨some _, rfl⟩ | exact ⟨none, rfl⟩ | exact ⟨_, rfl⟩) ?_
    refine kj_get X kc_X2 1 (by decide) q137 (Or.inl rfl) dX2_free_34 (fun H h => h.own (kc_11 (k := d) hd)) rfl ?_
    refine kj_ifnull X (r := some (gA g (7, p))) (by rw [sN_uN, if_pos ⟨rfl, rfl⟩]) 48 dX2_free_37 (by decide) (fun c_37 => ?_) (fun a_37 c_37 => ?_)
    · cases c_37
    refine kj_aload_n X dX2_free_40 rfl rfl (by first | exact ⟨some _, rfl⟩ | exact ⟨none, rfl⟩ | exact ⟨_, rfl⟩) ?_
    refine kj_get X kc_X2 1 (by decide) q137 (Or.inl rfl) dX2_free_41 (fun H h => h.own (kc_11 (k := d) hd)) rfl ?_
    rw [sN_uN, if_pos ⟨rfl, rfl⟩]
    refine kj_iconst (v := 0) X dX2_free_44 (by decide) ?_
    refine kj_putN X kc_X16 5 (by decide) q1150 rfl rfl dX2_free_45 (by first | rfl | exact kr_nar _ _ | exact kr_narb _) (by first | rfl | exact kr_fitr _ _ | exact kr_fitb _) (Nat.le_of_ble_eq_true rfl) (fun H h => h.own (kc_7 (k := p) hp)) (fun H H1 h a u => h.upd (kc_7 (k := p) hp) (ku_qd (S := uN (uL S 3 d ps) 9 d (p + 1)) (k := p) (v := 0) hp) a u) ?_
    exact kj_vret X dX2_free_48 (by omega) (by omega) (fun H h => ⟨rfl, kr_Hx.of h (kr_gsm_gL (r := (12, d))) (kr_gok_gL hg (hg.2.1 _))⟩)
/-- Free -/
def oFree (S : kr_St) (p d : Nat) : kr_St := if sN S 9 d = p + 1 then oF S d else S
theorem ct_X9_act (hF : kr_F G l) (hg : kr_gok g) {p q d : Nat} (hp : sN S 15 p = 1) (hD : sN S 14 0 = 6) (hq : sN S 12 q = 11) (hn : sI S 6 q = nI d) (hd : d < 6) (hl : (sL S 3 d).length < 2 ^ 31) (hpx : ∀ p ∈ sL S 3 d, sN S 15 p = 1) (hho : ∀ j, sN S 9 d = j + 1 → sN S 15 j = 1) (a1 : Nat) : kr_T G l yX9_act (ws_ yX9_act cX9_act 5 (Option.some Jvm.ClassFile.FieldType.boolean)) 7 400 [.ref (gA g (17, q)), .ref (gA g (0, 0)), .ref (gA g (7, p)), .ref a1] (kr_S G (gA g) (kr_cells G g S Z)) 0 0 (fun v H => v = some (.int (kr_b true)) ∧ kr_Hx G [12] g (oFree S p d) Z H) kr_no := by
  have k17 : kr_cells G g S Z (17, q) = kr_o 11 [.int (sI S 6 q)] := by rw [kc_17 (by omega), hq]
  have hd6 : d < sN S 14 0 := by omega
  refine kr_T.of (by decide +kernel) hF (by simp [Value.category]) (Nat.le_of_ble_eq_true rfl) (fun x hx X => ?_)
  refine kj_aload_n X dX9_act_0 rfl rfl (by first | exact ⟨some _, rfl⟩ | exact ⟨none, rfl⟩ | exact ⟨_, rfl⟩) ?_
  refine kj_getN X kc_X1 2 (by decide) q228 rfl dX9_act_1 (fun H h => h.own (kc_kio)) rfl ?_
  refine kj_aload_n X dX9_act_4 rfl rfl (by first | exact ⟨some _, rfl⟩ | exact ⟨none, rfl⟩ | exact ⟨_, rfl⟩) ?_
  refine kj_getN X kc_X9 0 (by decide) q625 rfl dX9_act_5 (fun H h => h.own (k17)) rfl ?_
  rw [hn]
  refine kj_callF X 1 (ct_J2_get X.F kc_l2 (k := d) (a := gA g (11, d)) (by rw [List.getElem?_map, List.getElem?_range hd6]; rfl)) q1326 q590 q592 q46 q594 q589 q588 q593 q591 q148 ⟨by decide, by decide, by decide +kernel⟩ dX9_act_8 rfl rfl (by first | exact Nat.le_of_ble_eq_true rfl | simp [kr_cat, Value.category]) ⟨Nat.le_of_ble_eq_true rfl, Nat.le_of_ble_eq_true rfl⟩ ⟨by dsimp only; omega, by dsimp only; omega⟩ kc_J2.1 (fun H h => h.list (kc_l2)) (fun E => kjx_no) (fun v_8 => ?_)
  refine kj_and (fun e_8 => ?_)
  subst e_8
  refine kj_ccastR X kc_X2.1 q1327 dX9_act_13 (fun H h => h.at (kc_11 hd6)) ?_
  refine kj_astore (lv' := [_, _, _, _, _]) X dX9_act_16 (by decide) (by intro w h _; cases h <;> first | rfl | exact kr_cat _) (by first | exact ⟨some _, rfl⟩ | exact ⟨none, rfl⟩ | exact ⟨_, rfl⟩) rfl ?_
  refine kj_aload X dX9_act_18 rfl (by first | exact ⟨some _, rfl⟩ | exact ⟨none, rfl⟩ | exact ⟨_, rfl⟩) ?_
  refine kj_getN X kc_X2 1 (by decide) q136 rfl dX9_act_20 (fun H h => h.own (kc_11 hd6)) rfl ?_
  refine kj_aload_n X dX9_act_23 rfl rfl (by first | exact ⟨some _, rfl⟩ | exact ⟨none, rfl⟩ | exact ⟨_, rfl⟩) ?_
  refine kj_pure (fun H h => kr_S.isp h hho hp) (fun hiff => ?_)
  refine kj_acmp_ne X (by first | exact Eq.refl (va_rf (some _)) | exact Eq.refl (va_rf none) | exact Eq.refl (va_rf _)) (by first | exact Eq.refl (va_rf (some _)) | exact Eq.refl (va_rf none) | exact Eq.refl (va_rf _)) 32 dX9_act_24 (by decide) (fun c_24 => ?_) (fun c_24 => ?_)
  · have e : ¬ sN S 9 d = p + 1 := fun z => c_24 (hiff.mpr z)
    unfold oFree
    rw [if_neg e]
    refine kj_iconst (v := 1) X dX9_act_32 (by decide) ?_
    exact kj_zret X rfl dX9_act_33 (by omega) (by omega) (fun H h => ⟨rfl, kr_Hx.of h kr_gsm.rf hg⟩)
  · have e : sN S 9 d = p + 1 := hiff.mp c_24
    unfold oFree
    rw [if_pos e]
    refine kj_aload X dX9_act_27 rfl (by first | exact ⟨some _, rfl⟩ | exact ⟨none, rfl⟩ | exact ⟨_, rfl⟩) ?_
    refine kj_callV X 0 (ct_X2_free X.F hg hd6 hl hpx) (lw_V q1328 q1214 q1215 q47 q1216) ⟨rfl, by decide, by decide, by decide +kernel⟩ dX9_act_29 rfl rfl (by first | exact Nat.le_of_ble_eq_true rfl | simp [kr_cat, Value.category]) ⟨Nat.le_of_ble_eq_true rfl, Nat.le_of_ble_eq_true rfl⟩ ⟨by dsimp only; omega, by dsimp only; omega⟩ kc_X2.1 (fun H h => h.rc (kc_11 hd6)) (fun E => kjx_no) (fun v_29 => ?_)
    refine kj_and (fun e_29 => ?_)
    subst e_29
    refine kj_iconst (v := 1) X dX9_act_32 (by decide) ?_
    exact kj_zret X rfl dX9_act_33 (by omega) (by omega) (fun H h => ⟨rfl, h⟩)
/-- Visitor -/
def oWould (S : kr_St) (v s : Nat) : Bool := decide (sI S (2 * v + 100) s = 0 ∨ sN S (v + 100) s = 1)
theorem ct_X18_wouldSee (hF : kr_F G l) {v s : Nat} (hv : v < sN S 2 0) (hs : s < 100) (hb : sN S (v + 100) s < 2) : kr_T G l yX18_wouldSee (ws_ yX18_wouldSee cX18_wouldSee 2 (Option.some Jvm.ClassFile.FieldType.boolean)) 1 20 [.ref (gA g (13, v)), .int (nI s)] (kr_S G (gA g) (kr_cells G g S Z)) 0 0 (fun w H => w = some (.int (kr_b (oWould S v s))) ∧ kr_S G (gA g) (kr_cells G g S Z) H) kr_no := by
  refine kr_T.of (by decide +kernel) hF (by simp [Value.category]) (Nat.le_of_ble_eq_true rfl) (fun x hx X => ?_)
  refine kj_aload_n X dX18_wouldSee_0 rfl rfl (by first | exact ⟨some _, rfl⟩ | exact ⟨none, rfl⟩ | exact ⟨_, rfl⟩) ?_
  refine kj_get X kc_X18 0 (by decide) q1475 (Or.inl rfl) dX18_wouldSee_1 (fun H h => h.own (kc_13 hv)) rfl ?_
  refine kj_iload_n X dX18_wouldSee_4 rfl rfl ?_
  refine kj_iald X dX18_wouldSee_5 (fun H h => h.own (kc_14 hv)) (vp_in_nI (N := 100) (by omega) (by omega)) ?_
  rw [nI_clamp (by omega : s < 2 ^ 31)]
  refine kj_if_eq X 18 dX18_wouldSee_6 (by decide) (fun c_6 => ?_) (fun c_6 => ?_)
  · refine kj_iconst (v := 1) X dX18_wouldSee_18 (by decide) ?_
    refine kj_goto X 23 dX18_wouldSee_19 (by decide) ?_
    exact kj_zret X rfl dX18_wouldSee_23 (by omega) (by omega) (fun H h => ⟨by simp [oWould, kr_b, c_6], h⟩)
  refine kj_aload_n X dX18_wouldSee_9 rfl rfl (by first | exact ⟨some _, rfl⟩ | exact ⟨none, rfl⟩ | exact ⟨_, rfl⟩) ?_
  refine kj_get X kc_X18 2 (by decide) q1479 (Or.inl rfl) dX18_wouldSee_10 (fun H h => h.own (kc_13 hv)) rfl ?_
  refine kj_iload_n X dX18_wouldSee_13 rfl rfl ?_
  refine kj_zald X dX18_wouldSee_14 (fun H h => h.own (kc_16 hv)) (vp_in_nI (N := 100) (by omega) (by omega)) ?_
  rw [nI_clamp (by omega : s < 2 ^ 31)]
  refine kj_if_eq X 22 dX18_wouldSee_15 (by decide) (fun c_15 => ?_) (fun c_15 => ?_)
  · have e : sN S (v + 100) s = 0 := (nI_eq (b := 0) (by omega) (by omega)).mp c_15
    refine kj_iconst (v := 0) X dX18_wouldSee_22 (by decide) ?_
    exact kj_zret X rfl dX18_wouldSee_23 (by omega) (by omega) (fun H h => ⟨by simp [oWould, kr_b, c_6, e], h⟩)
  · have e : sN S (v + 100) s = 1 := by
      have h0 : sN S (v + 100) s ≠ 0 := fun z => c_15 (by rw [z]; rfl)
      omega
    refine kj_iconst (v := 1) X dX18_wouldSee_18 (by decide) ?_
    refine kj_goto X 23 dX18_wouldSee_19 (by decide) ?_
    exact kj_zret X rfl dX18_wouldSee_23 (by omega) (by omega) (fun H h => ⟨by simp [oWould, kr_b, e], h⟩)
def oSee (S : kr_St) (v s : Nat) : kr_St := uN (uI S (2 * v + 100) s (sI S (2 * v + 100) s + 1)) (v + 100) s 0
theorem ct_X18_see (hF : kr_F G l) {v s : Nat} (hv : v < sN S 2 0) (hs : s < 100) : kr_T G l yX18_see (ws_ yX18_see cX18_see 2 (Option.none : Option Jvm.ClassFile.FieldType)) 1 20 [.ref (gA g (13, v)), .int (nI s)] (kr_S G (gA g) (kr_cells G g S Z)) 0 0 (fun w H => w = none ∧ kr_S G (gA g) (kr_cells G g (oSee S v s) Z) H) kr_no := by
  refine kr_T.of (by decide +kernel) hF (by simp [Value.category]) (Nat.le_of_ble_eq_true rfl) (fun x hx X => ?_)
  have hc : (nI s).toNatClampNeg = s := nI_clamp (by omega)
  have hv2 : v < sN (uI S (2 * v + 100) s (sI S (2 * v + 100) s + 1)) 2 0 := hv
  refine kj_aload_n X dX18_see_0 rfl rfl (by first | exact ⟨some _, rfl⟩ | exact ⟨none, rfl⟩ | exact ⟨_, rfl⟩) ?_
  refine kj_get X kc_X18 0 (by decide) q1475 (Or.inl rfl) dX18_see_1 (fun H h => h.own (kc_13 hv)) rfl ?_
  refine kj_iload_n X dX18_see_4 rfl rfl ?_
  refine kj_dup2 X dX18_see_5 (by first | rfl | exact kr_cat _) (by first | rfl | exact kr_cat _) ?_
  refine kj_iald X dX18_see_6 (fun H h => h.own (kc_14 hv)) (vp_in_nI (N := 100) (by omega) (by omega)) ?_
  rw [hc]
  refine kj_iconst (v := 1) X dX18_see_7 (by decide) ?_
  refine kj_iadd X dX18_see_8 ?_
  refine kj_iast X dX18_see_9 (fun H h => h.own (kc_14 hv)) (vp_in_nI (N := 100) (by omega) (by omega)) (fun H H1 h a u => kr_S.upa h (kc_14 hv) (ku_saw (s := s) (v := sI S (2 * v + 100) s + 1) hv) (by rw [hc] at a; exact a) u) ?_
  refine kj_aload_n X dX18_see_10 rfl rfl (by first | exact ⟨some _, rfl⟩ | exact ⟨none, rfl⟩ | exact ⟨_, rfl⟩) ?_
  refine kj_get X kc_X18 2 (by decide) q1479 (Or.inl rfl) dX18_see_11 (fun H h => h.own (kc_13 hv2)) rfl ?_
  refine kj_iload_n X dX18_see_14 rfl rfl ?_
  refine kj_iconst (v := 0) X dX18_see_15 (by decide) ?_
  refine kj_zast X dX18_see_16 (fun H h => h.own (kc_16 hv2)) (vp_in_nI (N := 100) (by omega) (by omega)) (fun H H1 h a u => kr_S.upa h (kc_16 hv2) (ku_asked (s := s) (v := 0) hv2 rfl) (by rw [hc] at a; exact a) u) ?_
  exact kj_vret X dX18_see_17 (by omega) (by omega) (fun H h => ⟨rfl, h⟩)
end
