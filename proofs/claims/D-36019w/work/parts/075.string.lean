/-! THE LETTERS: "swdfgvlcp".toCharArray() -/
set_option maxRecDepth 100000
def kr_let : List Int32 := [115, 119, 100, 102, 103, 118, 108, 99, 112]
theorem kr_let_ok : ∀ j, j < 9 → ((kr_let.getD j 0 &&& 255).toUInt32 % 65536).toInt32 = kr_let.getD j 0 ∧ vp_nar .char (kr_let.getD j 0) = kr_let.getD j 0 := by decide
def kf_S (G : kr_G) (aK aV : Nat) : Prop := vk_R "KioskReel" 160 "swdfgvlcp" aK (kg_s G) ∧ va_O "java/lang/String" aK (kr_old G) (kg_s G) (kg_s G).heap ∧ va_OF "java/lang/String" "coder" "B" (.int 0) aK (kr_old G) (kg_s G) (kg_s G).heap ∧ va_OF "java/lang/String" "value" "[B" (.ref aV) aK (kr_old G) (kg_s G) (kg_s G).heap ∧ va_T .byte aV 9 (fun j => .int (kr_let.getD j 0)) (kr_old G) (kg_s G) (kg_s G).heap
theorem kf_str {G : kr_G} {l : Launch} (hF : kr_F G l) : ∃ aK aV : Nat, kf_S G aK aV := by
  obtain ⟨b, h1, h2⟩ := kf_given hF
  have z : ∀ i : Nat, i < 1 → i = 0 := fun i h => by omega
  obtain ⟨adK, adV, ⟨hs, -⟩, he⟩ := vk_Sof (N := 1) (tm := fun _ => .string "KioskReel" 160) (len := [9]) (byt := [kr_let]) (A := kr_old G) (args := #[Value.ref b]) (s := kg_s G)
    (fun i hi => by rw [z i hi]; decide)
    (fun i hi => h2 (.exactly (.string "KioskReel" 160) "java/lang/String") (by decide +kernel))
    (fun i hi => h2 (.eq (.field (.string "KioskReel" 160) "java/lang/String" "coder" "B") (.int 0)) (by decide +kernel))
    (fun i hi => h2 (.arrayOf (.field (.string "KioskReel" 160) "java/lang/String" "value" "[B") .byte) (by decide +kernel))
    (fun i hi => by rw [z i hi]; exact h2 (.eq (.length (.field (.string "KioskReel" 160) "java/lang/String" "value" "[B")) (.int 9)) (by decide +kernel))
    (fun i hi j hj => by
      rw [z i hi] at hj ⊢
      have hj : j < 9 := hj
      have key : ∀ j, j < 9 → (Cond.eq (.elem (.field (.string "KioskReel" 160) "java/lang/String" "value" "[B") (.int (Int32.ofNat j))) (.int (kr_let.getD j 0))) ∈ flatC (Jvm.Cond.and given_1 narrow_1) := by decide +kernel
      exact h2 _ (key j hj))
    (fun i j hi hj hij => absurd ((z i hi).trans (z j hj).symm) hij) kf_old
  have h0 := hs 0 (by decide)
  exact ⟨adK 0, adV 0, vk_R.of (h1 _ q994) (he 0 (by decide)), h0.1, h0.2.1, h0.2.2.1, h0.2.2.2⟩
theorem kf_cs {G : kr_G} {l : Launch} (hF : kr_F G l) : va_Z "java/lang/String" "COMPACT_STRINGS" "Z" (.int 1) (kr_old G) (kg_s G) (kg_s G).heap := by
  obtain ⟨b, h1, h2⟩ := kf_given hF
  exact va_Zof (h1 _ q460) (h1 _ (lw_all_tbl q60)) (va_eqt (h2 (.eq (.static "java/lang/String" "COMPACT_STRINGS" "Z") (.int 1)) (by decide +kernel))) kf_old
section
variable {G : kr_G} {x : kr_X} {y : MethodName} {cc : ByteArray} {nL : Nat} {ret : Option FieldType} {rm : Room} {hh : List (Nat × Nat × Nat × Nat)} {Q : State → Prop} {P P' : Heap → Prop} {cs ss pc : Nat} {lv lv' : List (Option Value)} {st : List Value}
theorem kr_C.hk (X : kr_C G x y cc nL ret rm hh) : ∀ q : Nat, q < (kg_s G).heap.size → ¬ kr_old G q → (kx_s x).heap[q]? = (kg_s G).heap[q]? := fun q h1 _ => X.base.2 q h1
theorem kj_ldcS (X : kr_C G x y cc nL ret rm hh) {index a : Nat} {tx : String} (hdg : decode cc pc = .ok (.ldc index, 2)) (hR : vk_R y.cls index tx a (kg_s G))
    (k : kr_J G x nL Q P cs ss (pc + 2) lv (.ref a :: st)) : kr_J G x nL Q P cs ss pc lv st := fun H locs ls hH hS hl =>
  va_ldcS X.1 X.2.1 X.2.2.2.1 (hR.warm X.warm) hdg (k H locs ls hH hS hl)
theorem kj_getsZ (X : kr_C G x y cc nL ret rm hh) {C n d : String} {v : Value} {index : Nat} (hZ : va_Z C n d v (kr_old G) (kg_s G) (kg_s G).heap) (hlink : Cond.fieldLink y.cls index C n d ∈ lw_all) (hdg : decode cc pc = .ok (.getstatic index, 3))
    (k : kr_J G x nL Q P cs ss (pc + 3) lv (v :: st)) : kr_J G x nL Q P cs ss pc lv st := fun H locs ls hH hS hl =>
  va_gets X.1 X.2.1 ((hZ.moved X.warm.alike).kept X.hk) hS X.2.2.2.1 (X.hts _ hlink) (fun _ h => h) hdg (k H locs ls hH hS hl)
theorem kj_ogetf (X : kr_C G x y cc nL ret rm hh) {o n d : String} {v : Value} {index q : Nat} (hE : va_OF o n d v q (kr_old G) (kg_s G) (kg_s G).heap) (hlink : Cond.fieldLink y.cls index o n d ∈ lw_all) (hdg : decode cc pc = .ok (.getfield index, 3))
    (k : kr_J G x nL Q P cs ss (pc + 3) lv (v :: st)) : kr_J G x nL Q P cs ss pc lv (.ref q :: st) := fun H locs ls hH hS hl =>
  vk_getf X.1 X.2.1 ((hE.moved X.warm.alike).kept X.hk) hS X.2.2.2.1 (X.hts _ hlink) (fun _ h => h) hdg (k H locs ls hH hS hl)
theorem kj_obald (X : kr_C G x y cc nL ret rm hh) {t N : Nat} {f : Nat → Value} {i : Int32} {v : Value} (hT : va_T .byte t N f (kr_old G) (kg_s G) (kg_s G).heap) (hin : vp_in i N) (hv : f i.toNatClampNeg = v) (hdg : decode cc pc = .ok (.baload, 1))
    (k : kr_J G x nL Q P cs ss (pc + 1) lv (v :: st)) : kr_J G x nL Q P cs ss pc lv (.int i :: .ref t :: st) := fun H locs ls hH hS hl =>
  va_tb X.1 X.2.1 ((hT.moved X.warm.alike).kept X.hk) hS hin hv hdg (k H locs ls hH hS hl)
theorem kj_olen (X : kr_C G x y cc nL ret rm hh) {t N : Nat} {ty : FieldType} {f : Nat → Value} {v : Int32} (hT : va_T ty t N f (kr_old G) (kg_s G) (kg_s G).heap) (hv : Int32.ofNat N = v) (hdg : decode cc pc = .ok (.arraylength, 1))
    (k : kr_J G x nL Q P cs ss (pc + 1) lv (.int v :: st)) : kr_J G x nL Q P cs ss pc lv (.ref t :: st) := fun H locs ls hH hS hl =>
  va_tlen X.1 X.2.1 ((hT.moved X.warm.alike).kept X.hk) hS hv hdg (k H locs ls hH hS hl)
/-- invokevirtual on an object that lay there before -/
theorem kj_callVO (X : kr_C G x y cc nL ret rm hh) {z : MethodName} {bytes : ByteArray} {maxL F L mc ms index b : Nat} {ret' : Option FieldType} {C : String} {As rest : List Value} {Po : Option Value → Heap → Prop} {Px : String → Heap → Prop} (n : Nat)
    (hT : kr_T G (kx_l x) z (ws_ z bytes maxL ret') F L (.ref b :: As) P mc ms Po Px) (hw : GoodIn lw_all (wsV y.cls index C z (ws_ z bytes maxL ret'))) (hd : z.cls = C ∧ z.cls ≠ "java/lang/invoke/MethodHandle" ∧ z.cls ≠ "java/lang/invoke/VarHandle" ∧ (parseMethodDescriptor z.desc).map (fun d => d.parameters.length) = some n) (hdg : decode cc pc = .ok (.invokevirtual index, 3))
    (hst : st = As.reverse ++ .ref b :: rest) (hn : As.length = n) (hlow : (rest.map fun v => v.category).sum ≤ 8) (hR : F + 1 ≤ rm.frames ∧ 8 + (maxL + 11) + L ≤ rm.locals) (hroom : cs + mc ≤ rm.cells ∧ ss + ms ≤ rm.slots)
    (hrecv : va_O C b (kr_old G) (kg_s G) (kg_s G).heap)
    (kx : ∀ E, kr_JX G x nL Q (Px E) (cs + mc) (ss + ms) pc lv E) (k : ∀ v, kr_J G x nL Q (Po v) (cs + mc) (ss + ms) (pc + 3) lv (v.toList ++ rest)) : kr_J G x nL Q P cs ss pc lv st := by
  subst hst
  have e := X.room
  exact kj_run (fun H locs ls hP hS hl => vx_runV (kr_fixed X) hT (cwV n X.hts hw rfl rfl rfl hd (by show F + 1 ≤ (kx_R x).frames ∧ 8 + (maxL + 11) + L ≤ (kx_R x).locals; rw [e]; exact hR)) (⟨kr_blind, by
    obtain ⟨cell, h1, h2, h3, -⟩ := (((hrecv.moved X.warm.alike).kept X.hk).kept hS.2.1)
    exact ⟨cell, h1, h2, h3⟩, (kr_preS X hP hS).2⟩ : PreV (kx_s x) H C b (kr_Pc G (.ref b :: As) P) As) rfl hn hl.1 rfl (lv_room hlow) hdg (by show cs + mc ≤ (kx_R x).cells ∧ ss + ms ≤ (kx_R x).slots; rw [e]; exact hroom)) kx k
end
section
variable {G : kr_G} {l : Launch} {g g' : kr_Gh} {S S' : kr_St} {Z Z' : kr_Ro → Option kr_AE}
theorem ct_J12_isLatin1 (hF : kr_F G l) {aK aV : Nat} (hs : kf_S G aK aV) {P : Heap → Prop} : kr_T G l yJ12_isLatin1 (ws_ yJ12_isLatin1 cJ12_isLatin1 1 (Option.some Jvm.ClassFile.FieldType.boolean)) 1 20 [.ref aK] P 0 0 (fun v H => v = some (.int 1) ∧ P H) kr_no := by
  refine kr_T.of (by decide +kernel) hF (by simp [Value.category]) (Nat.le_of_ble_eq_true rfl) (fun x hx X => ?_)
  refine kj_getsZ X (kf_cs X.F) q459 dJ12_isLatin1_0 ?_
  refine kj_if_eq X 17 dJ12_isLatin1_3 (by decide) (fun c_3 => ?_) (fun c_3 => ?_)
  · exact absurd c_3 (by decide)
  refine kj_aload_n X dJ12_isLatin1_6 rfl rfl (by first | exact ⟨some _, rfl⟩ | exact ⟨none, rfl⟩ | exact ⟨_, rfl⟩) ?_
  refine kj_ogetf X hs.2.2.1 q954 dJ12_isLatin1_7 ?_
  refine kj_if_ne X 17 dJ12_isLatin1_10 (by decide) (fun c_10 => ?_) (fun c_10 => ?_)
  · exact absurd rfl c_10
  refine kj_iconst (v := 1) X dJ12_isLatin1_13 (by decide) ?_
  refine kj_goto X 18 dJ12_isLatin1_14 (by decide) ?_
  exact kj_zret X rfl dJ12_isLatin1_18 (by omega) (by omega) (fun H h => ⟨rfl, h⟩)
/-- the first j letters -/
def kr_lpre (j : Nat) : Nat → Int32 := fun t => if t < j then kr_let.getD t 0 else 0
theorem kr_lpre_up {j : Nat} : upd (kr_lpre j) j (kr_let.getD j 0) = kr_lpre (j + 1) := by
  funext t
  unfold upd kr_lpre
  by_cases e : t = j
  · rw [if_pos e, if_pos (by omega), e]
  · rw [if_neg e]
    by_cases e2 : t < j
    · rw [if_pos e2, if_pos (by omega)]
    · rw [if_neg e2, if_neg (by omega)]
theorem ct_J19_inflate_2 (hF : kr_F G l) (hg : kr_gok g) {aK aV q : Nat} (hs : kf_S G aK aV) : kr_T G l yJ19_inflate_2 (ws_ yJ19_inflate_2 cJ19_inflate_2 6 (Option.none : Option Jvm.ClassFile.FieldType)) 1 40 [.ref aV, .int 0, .ref (gA g (40, q)), .int 0, .int 9] (kr_S G (gA g) (kr_cells G g S (kr_up Z (40, q) (kr_ai G 4 9 (kr_lpre 0))))) 0 0 (fun v H => v = none ∧ kr_S G (gA g) (kr_cells G g S (kr_up Z (40, q) (kr_ai G 4 9 (kr_lpre 9)))) H) kr_no := by
  refine kr_T.of (by decide +kernel) hF (by simp [Value.category]) (Nat.le_of_ble_eq_true rfl) (fun x hx X => ?_)
  refine kj_iconst (v := 0) X dJ19_inflate_2_0 (by decide) ?_
  refine kj_istore (lv' := [_, _, _, _, _, _]) X dJ19_inflate_2_1 (by decide) (by intro w h _; cases h <;> first | rfl | exact kr_cat _) rfl ?_
  have loop : ∀ m j, j + m = 9 → kr_J G x 6 (kr_Q G x 0 0 (fun v H => v = none ∧ kr_S G (gA g) (kr_cells G g S (kr_up Z (40, q) (kr_ai G 4 9 (kr_lpre 9)))) H) kr_no) (kr_S G (gA g) (kr_cells G g S (kr_up Z (40, q) (kr_ai G 4 9 (kr_lpre j))))) 0 0 3 [some (.ref aV), some (.int (nI j)), some (.ref (gA g (40, q))), some (.int (nI j)), some (.int 9), some (.int (nI j))] [] := by
    intro m
    induction m with
    | zero =>
      intro j hj
      obtain rfl : j = 9 := by omega
      refine kj_iload X dJ19_inflate_2_3 rfl ?_
      refine kj_iload X dJ19_inflate_2_5 rfl ?_
      refine kj_icmp_ge X 33 dJ19_inflate_2_7 (by decide) (fun c_7 => ?_) (fun c_7 => ?_)
      · exact kj_vret X dJ19_inflate_2_33 (by omega) (by omega) (fun H h => ⟨rfl, h⟩)
      · exact absurd (by decide) c_7
    | succ m ih =>
      intro j hj
      refine kj_iload X dJ19_inflate_2_3 rfl ?_
      refine kj_iload X dJ19_inflate_2_5 rfl ?_
      refine kj_icmp_ge X 33 dJ19_inflate_2_7 (by decide) (fun c_7 => ?_) (fun c_7 => ?_)
      · exact absurd c_7 (nI_ge (b := 9) (by omega) (by decide))
      refine kj_aload_n X dJ19_inflate_2_10 rfl rfl (by first | exact ⟨some _, rfl⟩ | exact ⟨none, rfl⟩ | exact ⟨_, rfl⟩) ?_
      refine kj_iload_n X dJ19_inflate_2_11 rfl rfl ?_
      refine kj_iinc (lv' := [_, _, _, _, _, _]) (w := nI (j + 1)) X dJ19_inflate_2_12 (by decide) rfl (by intro w h _; cases h <;> first | rfl | exact kr_cat _) (nI_1 j) rfl ?_
      refine kj_aload_n X dJ19_inflate_2_15 rfl rfl (by first | exact ⟨some _, rfl⟩ | exact ⟨none, rfl⟩ | exact ⟨_, rfl⟩) ?_
      refine kj_iload_n X dJ19_inflate_2_16 rfl rfl ?_
      refine kj_iinc (lv' := [_, _, _, _, _, _]) (w := nI (j + 1)) X dJ19_inflate_2_17 (by decide) rfl (by intro w h _; cases h <;> first | rfl | exact kr_cat _) (nI_1 j) rfl ?_
      refine kj_obald X hs.2.2.2.2 (vp_in_nI (by omega) (by decide)) rfl dJ19_inflate_2_20 ?_
      rw [nI_clamp (by omega : j < 2 ^ 31)]
      have hk : kr_cells G g S (kr_up Z (40, q) (kr_ai G 4 9 (kr_lpre j))) (40, q) = kr_ai G 4 9 (kr_lpre j) := by rw [kc_Zt, kr_up_s]
      obtain ⟨l1, l2⟩ := kr_let_ok j (by omega)
      refine kj_sipush (v := 255) X dJ19_inflate_2_21 (by decide) ?_
      refine kj_iand X dJ19_inflate_2_24 ?_
      refine kj_i2c X dJ19_inflate_2_25 l1 ?_
      refine kj_cast X dJ19_inflate_2_26 (fun H h => h.own hk) (vp_in_nI (N := 9) (by omega) (by decide)) (fun H H1 h a u => h.upa hk (by rw [kc_upt, kr_up_up]) (by rw [nI_clamp (by omega), l2, kr_lpre_up] at a; exact a) u) ?_
      refine kj_iinc (lv' := [_, _, _, _, _, _]) (w := nI (j + 1)) X dJ19_inflate_2_27 (by decide) rfl (by intro w h _; cases h <;> first | rfl | exact kr_cat _) (nI_1 j) rfl ?_
      refine kj_goto X 3 dJ19_inflate_2_30 (by decide) ?_
      exact ih (j + 1) (by omega)
  exact loop 9 0 (by decide)
theorem ct_J19_toChars (hF : kr_F G l) (hg : kr_gok g) {aK aV : Nat} (hs : kf_S G aK aV) : kr_T G l yJ19_toChars (ws_ yJ19_toChars cJ19_toChars 2 (Option.some (Jvm.ClassFile.FieldType.array Jvm.ClassFile.FieldType.char))) 2 100 [.ref aV] (kr_S G (gA g) (kr_cells G g S Z)) 1 9 (fun v H => ∃ q, (v = some (.ref q) ∧ Z (40, q) = none) ∧ kr_S G (gA g) (kr_cells G g S (kr_up Z (40, q) (kr_ai G 4 9 (kr_lpre 9)))) H) kr_no := by
  refine kr_T.of (by decide +kernel) hF (by simp [Value.category]) (Nat.le_of_ble_eq_true rfl) (fun x hx X => ?_)
  have e0 : (fun _ => 0 : Nat → Int32) = kr_lpre 0 := funext fun t => (if_neg (Nat.not_lt_zero t)).symm
  refine kj_aload_n X dJ19_toChars_0 rfl rfl (by first | exact ⟨some _, rfl⟩ | exact ⟨none, rfl⟩ | exact ⟨_, rfl⟩) ?_
  refine kj_olen X hs.2.2.2.2 (v := 9) rfl dJ19_toChars_1 ?_
  refine kj_newa (Pn := fun q H => Z (40, q) = none ∧ kr_S G (gA g) (kr_cells G g S (kr_up Z (40, q) (kr_ai G 4 9 (kr_lpre 0)))) H) (a0 := (9, .inl (kr_lpre 0))) (N := 9) X 4 rfl rfl q1044 (fun cA => by rw [← e0]; rfl) dJ19_toChars_2 (by decide) (by decide) (by decide) (by dsimp only; omega) (by dsimp only; omega) (fun H H1 h ho a u => h.mk (e := .inl (.inl (kg_A G 4, 9, .inl (kr_lpre 0)))) hg.1 a ho u) (fun q => ?_)
  refine kj_and (fun hq => ?_)
  rw [show Value.ref q = Value.ref (gA g (40, q)) from by rw [(hg.1 q).1]]
  refine kj_astore_n (lv' := [_, _]) X dJ19_toChars_4 rfl (by decide) (by intro w h _; cases h <;> first | rfl | exact kr_cat _) (by first | exact ⟨some _, rfl⟩ | exact ⟨none, rfl⟩ | exact ⟨_, rfl⟩) rfl ?_
  refine kj_aload_n X dJ19_toChars_5 rfl rfl (by first | exact ⟨some _, rfl⟩ | exact ⟨none, rfl⟩ | exact ⟨_, rfl⟩) ?_
  refine kj_iconst (v := 0) X dJ19_toChars_6 (by decide) ?_
  refine kj_aload_n X dJ19_toChars_7 rfl rfl (by first | exact ⟨some _, rfl⟩ | exact ⟨none, rfl⟩ | exact ⟨_, rfl⟩) ?_
  refine kj_iconst (v := 0) X dJ19_toChars_8 (by decide) ?_
  refine kj_aload_n X dJ19_toChars_9 rfl rfl (by first | exact ⟨some _, rfl⟩ | exact ⟨none, rfl⟩ | exact ⟨_, rfl⟩) ?_
  refine kj_olen X hs.2.2.2.2 (v := 9) rfl dJ19_toChars_10 ?_
  refine kj_callS X 5 (ct_J19_inflate_2 X.F hg hs) (lw_S q1006 q1007 q77 q1008) ⟨by decide, by decide, by decide +kernel⟩ dJ19_toChars_11 rfl rfl (by first | exact Nat.le_of_ble_eq_true rfl | simp [kr_cat, Value.category]) ⟨Nat.le_of_ble_eq_true rfl, Nat.le_of_ble_eq_true rfl⟩ ⟨by dsimp only; omega, by dsimp only; omega⟩ (fun E => kjx_no) (fun v_11 => ?_)
  refine kj_and (fun e_11 => ?_)
  subst e_11
  refine kj_aload_n X dJ19_toChars_14 rfl rfl (by first | exact ⟨some _, rfl⟩ | exact ⟨none, rfl⟩ | exact ⟨_, rfl⟩) ?_
  exact kj_aret X (Or.inr ⟨_, rfl⟩) (by first | exact ⟨some _, rfl⟩ | exact ⟨none, rfl⟩ | exact ⟨_, rfl⟩) dJ19_toChars_15 (by omega) (by omega) (fun H h => ⟨q, ⟨by rw [(hg.1 q).1], hq⟩, h⟩)
theorem ct_J12_toCharArray (hF : kr_F G l) (hg : kr_gok g) {aK aV : Nat} (hs : kf_S G aK aV) : kr_T G l yJ12_toCharArray (ws_ yJ12_toCharArray cJ12_toCharArray 1 (Option.some (Jvm.ClassFile.FieldType.array Jvm.ClassFile.FieldType.char))) 3 200 [.ref aK] (kr_S G (gA g) (kr_cells G g S Z)) 1 9 (fun v H => ∃ q, (v = some (.ref q) ∧ Z (40, q) = none) ∧ kr_S G (gA g) (kr_cells G g S (kr_up Z (40, q) (kr_ai G 4 9 (kr_lpre 9)))) H) kr_no := by
  refine kr_T.of (by decide +kernel) hF (by simp [Value.category]) (Nat.le_of_ble_eq_true rfl) (fun x hx X => ?_)
  refine kj_aload_n X dJ12_toCharArray_0 rfl rfl (by first | exact ⟨some _, rfl⟩ | exact ⟨none, rfl⟩ | exact ⟨_, rfl⟩) ?_
  refine kj_callVO X 0 (ct_J12_isLatin1 X.F hs) (lw_V q999 q1000 q1001 q60 q1002) ⟨rfl, by decide, by decide, by decide +kernel⟩ dJ12_toCharArray_1 rfl rfl (Nat.le_of_ble_eq_true rfl) ⟨Nat.le_of_ble_eq_true rfl, Nat.le_of_ble_eq_true rfl⟩ ⟨by dsimp only; omega, by dsimp only; omega⟩ hs.2.1 (fun E => kjx_no) (fun v_1 => ?_)
  refine kj_and (fun e_1 => ?_)
  subst e_1
  refine kj_if_eq X 17 dJ12_toCharArray_4 (by decide) (fun c_4 => ?_) (fun c_4 => ?_)
  · exact absurd c_4 (by decide)
  refine kj_aload_n X dJ12_toCharArray_7 rfl rfl (by first | exact ⟨some _, rfl⟩ | exact ⟨none, rfl⟩ | exact ⟨_, rfl⟩) ?_
  refine kj_ogetf X hs.2.2.2.1 q953 dJ12_toCharArray_8 ?_
  refine kj_callS X 1 (ct_J19_toChars X.F hg hs) (lw_S q1003 q1004 q77 q1005) ⟨by decide, by decide, by decide +kernel⟩ dJ12_toCharArray_11 rfl rfl (by first | exact Nat.le_of_ble_eq_true rfl | simp [kr_cat, Value.category]) ⟨Nat.le_of_ble_eq_true rfl, Nat.le_of_ble_eq_true rfl⟩ ⟨by dsimp only; omega, by dsimp only; omega⟩ (fun E => kjx_no) (fun v_11 => ?_)
  refine kj_open (fun q hq => ?_)
  obtain ⟨rfl, hq⟩ := hq
  refine kj_goto X 24 dJ12_toCharArray_14 (by decide) ?_
  exact kj_aret X (Or.inr ⟨_, rfl⟩) (by first | exact ⟨some _, rfl⟩ | exact ⟨none, rfl⟩ | exact ⟨_, rfl⟩) dJ12_toCharArray_24 (by omega) (by omega) (fun H h => ⟨q, ⟨rfl, hq⟩, h⟩)
end
