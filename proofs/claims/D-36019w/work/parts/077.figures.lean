/-! FIGURES: heldBits, meanSeen, isSound -/
set_option maxRecDepth 100000
theorem kr_mask (a : UInt64) : (a &&& 0x7fffffffffffffff).toNat = a.toNat % 2 ^ 63 := by
  rw [UInt64.toNat_and]
  exact Nat.and_two_pow_sub_one_eq_mod _ 63
theorem kr_n64 {a : UInt64} (h : a.toNat % 2 ^ 63 ≤ 9218868437227405312) : vf_n64 a := by
  unfold vf_n64
  rw [UInt64.le_iff_toNat_le, kr_mask]
  exact h
/-- an encoding of a number or an infinity -/
theorem kr_asm (s : Bool) (e t : Nat) (h : e * 4503599627370496 + t ≤ 9218868437227405312) : FP.Core.assemble FP.Core.b64 s e t % 2 ^ 63 ≤ 9218868437227405312 := by
  have e1 : FP.Core.assemble FP.Core.b64 s e t = (s.toNat * 2048 + e) * 4503599627370496 + t := rfl
  rw [e1]
  cases s with
  | false =>
    show ((0 * 2048 + e) * 4503599627370496 + t) % 2 ^ 63 ≤ _
    omega
  | true =>
    show ((1 * 2048 + e) * 4503599627370496 + t) % 2 ^ 63 ≤ _
    omega
theorem kr_enc_bound (s : Bool) (c : Nat) (q : Int) (hc : c < 9007199254740992) : FP.Core.encode FP.Core.b64 (FP.Core.bound FP.Core.b64 s c q) % 2 ^ 63 ≤ 9218868437227405312 := by
  have hm : FP.Core.b64.qmax = 971 := by decide
  have hn : FP.Core.b64.qmin = -1074 := by decide
  have ht : FP.Core.b64.tails = 4503599627370496 := by decide
  have hx : FP.Core.b64.exps = 2048 := by decide
  unfold FP.Core.bound
  rw [hm]
  split
  · rename_i hq
    show (if c < FP.Core.b64.tails then FP.Core.assemble FP.Core.b64 s 0 c else FP.Core.assemble FP.Core.b64 s ((q - FP.Core.b64.qmin).toNat + 1) (c - FP.Core.b64.tails)) % 2 ^ 63 ≤ _
    rw [ht, hn]
    split
    · exact kr_asm s 0 c (by omega)
    · exact kr_asm s _ _ (by omega)
  · show FP.Core.assemble FP.Core.b64 s (FP.Core.b64.exps - 1) 0 % 2 ^ 63 ≤ _
    rw [hx]
    exact kr_asm s _ _ (by decide)
theorem kr_enc_ratio (s : Bool) (num den : Nat) (e : Int) : FP.Core.encode FP.Core.b64 (FP.Core.roundRatio FP.Core.b64 s num den e) % 2 ^ 63 ≤ 9218868437227405312 := by
  have ht : FP.Core.b64.tails = 4503599627370496 := by decide
  unfold FP.Core.roundRatio
  split
  · have e0 : FP.Core.encode FP.Core.b64 (.fin s 0 FP.Core.b64.qmin) = FP.Core.assemble FP.Core.b64 s 0 0 := by
      unfold FP.Core.encode
      exact if_pos (by rw [ht]; decide)
    rw [e0]
    exact kr_asm s 0 0 (by decide)
  · unfold FP.Core.roundAt FP.Core.settle
    split
    · rename_i hc
      exact kr_enc_bound s _ _ hc
    · rw [ht]
      exact kr_enc_bound s _ _ (by decide)
theorem kr_decn {n : Nat} (h : n % 2 ^ 63 ≤ 9218868437227405312) : FP.Core.decode FP.Core.b64 n ≠ .nan := by
  unfold FP.Core.decode
  have e1 : FP.Core.fieldE FP.Core.b64 n = n / 4503599627370496 % 2048 := rfl
  have e2 : FP.Core.fieldT FP.Core.b64 n = n % 4503599627370496 := rfl
  have hx : FP.Core.b64.exps - 1 = 2047 := by decide
  rw [hx, e1, e2]
  split
  · rename_i hE
    rw [if_pos (by omega)]
    exact fun z => by cases z
  · split
    · exact fun z => by cases z
    · exact fun z => by cases z
theorem kr_i2d_mod (x : Int32) : (FP.i2d x).toNat % 2 ^ 63 ≤ 9218868437227405312 := by
  have h := kr_enc_ratio (decide (x.toInt < 0)) x.toInt.natAbs 1 0
  have e : (FP.i2d x).toNat = FP.Core.encode FP.Core.b64 (FP.Core.roundRatio FP.Core.b64 (decide (x.toInt < 0)) x.toInt.natAbs 1 0) % 2 ^ 64 := rfl
  rw [e]
  omega
def kr_denb : FP.Core.Datum → Bool
  | .fin _ d _ => decide (d ≠ 0)
  | _ => false
theorem kr_den_ok : ∀ n, 1 ≤ n → n ≤ 10 → kr_denb (FP.Core.decode FP.Core.b64 (FP.i2d (nI n)).toNat) = true := by
  intro n h1 h2
  rcases (show n = 1 ∨ n = 2 ∨ n = 3 ∨ n = 4 ∨ n = 5 ∨ n = 6 ∨ n = 7 ∨ n = 8 ∨ n = 9 ∨ n = 10 by omega) with rfl | rfl | rfl | rfl | rfl | rfl | rfl | rfl | rfl | rfl <;> decide +kernel
theorem kr_mean_mod {x : Int32} {n : Nat} (h1 : 1 ≤ n) (h2 : n ≤ 10) : (FP.ddiv (FP.i2d x) (FP.i2d (nI n))).toNat % 2 ^ 63 ≤ 9218868437227405312 := by
  have hy := kr_den_ok n h1 h2
  have hxn := kr_decn (kr_i2d_mod x)
  have hx : FP.Core.b64.exps = 2048 := by decide
  have e : (FP.ddiv (FP.i2d x) (FP.i2d (nI n))).toNat = FP.Core.encode FP.Core.b64 (FP.Core.quotient FP.Core.b64 (FP.Core.decode FP.Core.b64 (FP.i2d x).toNat) (FP.Core.decode FP.Core.b64 (FP.i2d (nI n)).toNat)) % 2 ^ 64 := rfl
  rw [e]
  suffices hs : FP.Core.encode FP.Core.b64 (FP.Core.quotient FP.Core.b64 (FP.Core.decode FP.Core.b64 (FP.i2d x).toNat) (FP.Core.decode FP.Core.b64 (FP.i2d (nI n)).toNat)) % 2 ^ 63 ≤ 9218868437227405312 by omega
  generalize FP.Core.decode FP.Core.b64 (FP.i2d x).toNat = dx at hxn ⊢
  generalize FP.Core.decode FP.Core.b64 (FP.i2d (nI n)).toNat = dy at hy ⊢
  cases dy with
  | nan => cases hy
  | inf t => cases hy
  | fin t d r =>
    have hd : d ≠ 0 := of_decide_eq_true hy
    cases dx with
    | nan => exact absurd rfl hxn
    | inf s =>
      show FP.Core.assemble FP.Core.b64 (s != t) (FP.Core.b64.exps - 1) 0 % 2 ^ 63 ≤ _
      rw [hx]
      exact kr_asm _ _ _ (by decide)
    | fin s c q =>
      show FP.Core.encode FP.Core.b64 (if d = 0 then (if c = 0 then .nan else .inf (s != t)) else FP.Core.roundRatio FP.Core.b64 (s != t) c d (q - r)) % 2 ^ 63 ≤ _
      rw [if_neg hd]
      exact kr_enc_ratio _ _ _ _
theorem kr_mean_ok {x : Int32} {n : Nat} (h1 : 1 ≤ n) (h2 : n ≤ 10) : vf_n64 (FP.ddiv (FP.i2d x) (FP.i2d (nI n))) := kr_n64 (kr_mean_mod h1 h2)
/-- a number is equal to itself -/
theorem kr_dcmp {a : UInt64} (h : a.toNat % 2 ^ 63 ≤ 9218868437227405312) : FP.dcmp a a = some .eq := by
  have hn := kr_decn h
  show FP.Core.order (FP.Core.decode FP.Core.b64 a.toNat) (FP.Core.decode FP.Core.b64 a.toNat) = _
  generalize FP.Core.decode FP.Core.b64 a.toNat = d at hn ⊢
  have hc : ∀ i : Int, compare i i = .eq := fun i => by rw [Int.compare_eq_eq]
  cases d with
  | nan => exact absurd rfl hn
  | inf s =>
    show some (compare _ _) = _
    rw [hc]
  | fin s c q =>
    show some (compare _ _) = _
    rw [hc]
theorem fShare_self {n : Nat} (h : n ≤ 6) : Op.cmpValue (FP.fcmp (fShare n) (fShare n)) .l = 0 := by
  rcases (show n = 0 ∨ n = 1 ∨ n = 2 ∨ n = 3 ∨ n = 4 ∨ n = 5 ∨ n = 6 by omega) with rfl | rfl | rfl | rfl | rfl | rfl | rfl <;> (unfold fShare; decide +kernel)
section
variable {G : kr_G} {x : kr_X} {y : MethodName} {cc : ByteArray} {nL : Nat} {ret : Option FieldType} {rm : Room} {hh : List (Nat × Nat × Nat × Nat)} {Q : State → Prop} {P P' : Heap → Prop} {cs ss pc : Nat} {lv lv' : List (Option Value)} {st : List Value}
theorem kj_f2raw (X : kr_C G x y cc nL ret rm hh) {index : Nat} {b : UInt32} (hlink : Cond.methodLink y.cls index ⟨"java/lang/Float", "floatToRawIntBits", "(F)I"⟩ ∈ lw_all) (hdg : decode cc pc = .ok (.invokestatic index, 3)) (hf : 1 ≤ rm.frames) (hlo : (st.map fun v => v.category).sum + 15 ≤ rm.locals)
    (k : kr_J G x nL Q P cs ss (pc + 3) lv (.int b.toInt32 :: st)) : kr_J G x nL Q P cs ss pc lv (.float b :: st) := fun H locs ls hH hS hl => by
  have hR := X.room
  exact vn_f2i X.1 X.2.1 (by rw [hl.1]; exact X.2.2.1) X.2.2.2.1 (X.hts _ hlink) (X.hts _ q398) (X.hts _ q397) (X.hts _ q87) (by show 1 ≤ (kx_R x).frames; rw [hR]; exact hf) (by show _ ≤ (kx_R x).locals; rw [hR]; exact hlo) hdg (k H locs ls hH hS hl)
end
/-- a sum -/
def kr_sum (f : Nat → Int32) : Nat → Int32 → Int32
  | 0, a => a
  | n + 1, a => kr_sum f n a + f n
def oSumV (S : kr_St) : Nat → Int32
  | 0 => 0
  | n + 1 => kr_sum (fun s => sI S (2 * n + 100) s) 100 (oSumV S n)
section
variable {G : kr_G} {l : Launch} {g g' : kr_Gh} {S S' : kr_St} {Z Z' : kr_Ro → Option kr_AE}
theorem ct_J24_isNaN (hF : kr_F G l) {P : Heap → Prop} {b : UInt32} (hb : Op.cmpValue (FP.fcmp b b) .l = 0) : kr_T G l yJ24_isNaN (ws_ yJ24_isNaN cJ24_isNaN 1 (Option.some Jvm.ClassFile.FieldType.boolean)) 1 30 [.float b] P 0 0 (fun v H => v = some (.int 0) ∧ P H) kr_no := by
  refine kr_T.of (by decide +kernel) hF (by simp [Value.category]) (Nat.le_of_ble_eq_true rfl) (fun x hx X => ?_)
  refine kj_fload_n X dJ24_isNaN_0 rfl rfl ?_
  refine kj_fload_n X dJ24_isNaN_1 rfl rfl ?_
  refine kj_fcmp X dJ24_isNaN_2 ?_
  rw [hb]
  refine kj_if_eq X 10 dJ24_isNaN_3 (by decide) (fun c_3 => ?_) (fun c_3 => ?_)
  · refine kj_iconst (v := 0) X dJ24_isNaN_10 (by decide) ?_
    exact kj_zret X rfl dJ24_isNaN_11 (by omega) (by omega) (fun H h => ⟨rfl, h⟩)
  · exact absurd rfl c_3
theorem ct_J24_floatToIntBits (hF : kr_F G l) {P : Heap → Prop} {b : UInt32} (hb : Op.cmpValue (FP.fcmp b b) .l = 0) : kr_T G l yJ24_floatToIntBits (ws_ yJ24_floatToIntBits cJ24_floatToIntBits 1 (Option.some Jvm.ClassFile.FieldType.int)) 2 80 [.float b] P 0 0 (fun v H => v = some (.int b.toInt32) ∧ P H) kr_no := by
  refine kr_T.of (by decide +kernel) hF (by simp [Value.category]) (Nat.le_of_ble_eq_true rfl) (fun x hx X => ?_)
  refine kj_fload_n X dJ24_floatToIntBits_0 rfl rfl ?_
  refine kj_callS X 1 (ct_J24_isNaN X.F hb) (lw_S q393 q394 q87 q395) ⟨by decide, by decide, by decide +kernel⟩ dJ24_floatToIntBits_1 rfl rfl (by first | exact Nat.le_of_ble_eq_true rfl | simp [kr_cat, Value.category]) ⟨Nat.le_of_ble_eq_true rfl, Nat.le_of_ble_eq_true rfl⟩ ⟨by dsimp only; omega, by dsimp only; omega⟩ (fun E => kjx_no) (fun v_1 => ?_)
  refine kj_and (fun e_1 => ?_)
  subst e_1
  refine kj_if_ne X 12 dJ24_floatToIntBits_4 (by decide) (fun c_4 => ?_) (fun c_4 => ?_)
  · exact absurd rfl c_4
  refine kj_fload_n X dJ24_floatToIntBits_7 rfl rfl ?_
  refine kj_f2raw X q396 dJ24_floatToIntBits_8 (Nat.le_of_ble_eq_true rfl) (Nat.le_of_ble_eq_true rfl) ?_
  exact kj_iret X dJ24_floatToIntBits_11 (by omega) (by omega) (fun H h => ⟨rfl, h⟩)
theorem ct_X1_heldBits (hF : kr_F G l) (hg : kr_gok g) (hD : sN S 14 0 = 6) : kr_T G l yX1_heldBits (ws_ yX1_heldBits cX1_heldBits 1 (Option.some Jvm.ClassFile.FieldType.int)) 11 3300 [.ref (gA g (0, 0))] (kr_S G (gA g) (kr_cells G g S Z)) 1 4 (fun v H => v = some (.int (fShare (nAll S)).toInt32) ∧ kr_S G (gA g) (kr_cells G g S Z) H) kr_no := by
  have hle : nAll S ≤ 6 := by
    unfold nAll
    refine Nat.le_trans List.countP_le_length ?_
    rw [List.length_range, hD]
    exact Nat.le_refl _
  refine kr_T.of (by decide +kernel) hF (by simp [Value.category]) (Nat.le_of_ble_eq_true rfl) (fun x hx X => ?_)
  refine kj_aload_n X dX1_heldBits_0 rfl rfl (by first | exact ⟨some _, rfl⟩ | exact ⟨none, rfl⟩ | exact ⟨_, rfl⟩) ?_
  refine kj_callV X 0 (ct_X1_heldShare X.F hg hD) (lw_V q389 q252 q253 q43 q254) ⟨rfl, by decide, by decide, by decide +kernel⟩ dX1_heldBits_1 rfl rfl (by first | exact Nat.le_of_ble_eq_true rfl | simp [kr_cat, Value.category]) ⟨Nat.le_of_ble_eq_true rfl, Nat.le_of_ble_eq_true rfl⟩ ⟨by dsimp only; omega, by dsimp only; omega⟩ kc_X1.1 (fun H h => h.rc (kc_kio)) (fun E => kjx_no) (fun v_1 => ?_)
  refine kj_and (fun e_1 => ?_)
  subst e_1
  refine kj_callS X 1 (ct_J24_floatToIntBits X.F (fShare_self hle)) (lw_S q390 q391 q87 q392) ⟨by decide, by decide, by decide +kernel⟩ dX1_heldBits_4 rfl rfl (by first | exact Nat.le_of_ble_eq_true rfl | simp [kr_cat, Value.category]) ⟨Nat.le_of_ble_eq_true rfl, Nat.le_of_ble_eq_true rfl⟩ ⟨by dsimp only; omega, by dsimp only; omega⟩ (fun E => kjx_no) (fun v_4 => ?_)
  refine kj_and (fun e_4 => ?_)
  subst e_4
  exact kj_iret X dX1_heldBits_7 (by omega) (by omega) (fun H h => ⟨rfl, h⟩)
theorem ct_X1_meanSeen (hF : kr_F G l) (hg : kr_gok g) (hn : sN S 2 0 ≤ 10) : kr_T G l yX1_meanSeen (ws_ yX1_meanSeen cX1_meanSeen 8 (Option.some Jvm.ClassFile.FieldType.double)) 6 300 [.ref (gA g (0, 0))] (kr_S G (gA g) (kr_cells G g S Z)) 1 6 (fun v H => (sN S 2 0 ≠ 0 ∧ v = some (.double (FP.ddiv (FP.i2d (oSumV S (sN S 2 0))) (FP.i2d (nI (sN S 2 0)))))) ∧ kr_S G (gA g) (kr_cells G g S Z) H) (fun E H => (sN S 2 0 = 0 ∧ E = "java/lang/ArithmeticException") ∧ kr_S G (gA g) (kr_cells G g S Z) H) := by
  have hlen : ((List.range (sN S 2 0)).map fun i => gA g (13, i)).length = sN S 2 0 := by rw [List.length_map, List.length_range]
  refine kr_T.of (by decide +kernel) hF (by simp [Value.category]) (Nat.le_of_ble_eq_true rfl) (fun x hx X => ?_)
  refine kj_aload_n X dX1_meanSeen_0 rfl rfl (by first | exact ⟨some _, rfl⟩ | exact ⟨none, rfl⟩ | exact ⟨_, rfl⟩) ?_
  refine kj_get X kc_X1 3 (by decide) q231 (Or.inl rfl) dX1_meanSeen_1 (fun H h => h.own (kc_kio)) rfl ?_
  refine kj_callF X 0 (ct_J2_isEmpty X.F kc_l3 (by rw [hlen]; omega)) q1541 q1221 q1223 q46 q1225 q1220 q1219 q1224 q1222 q148 ⟨by decide, by decide, by decide +kernel⟩ dX1_meanSeen_4 rfl rfl (by first | exact Nat.le_of_ble_eq_true rfl | simp [kr_cat, Value.category]) ⟨Nat.le_of_ble_eq_true rfl, Nat.le_of_ble_eq_true rfl⟩ ⟨by dsimp only; omega, by dsimp only; omega⟩ kc_J2.1 (fun H h => h.list (kc_l3)) (fun E => kjx_no) (fun v_4 => ?_)
  refine kj_and (fun e_4 => ?_)
  subst e_4
  by_cases h0 : sN S 2 0 = 0
  · rw [show kr_b (decide ((List.range (sN S 2 0)).map (fun i => gA g (13, i)) = [])) = 1 from by rw [h0]; rfl]
    refine kj_if_eq X 20 dX1_meanSeen_9 (by decide) (fun c_9 => ?_) (fun c_9 => ?_)
    · exact absurd c_9 (by decide)
    exact kj_throw0 X (by decide +kernel) q1542 q88 kx_AE dX1_meanSeen_12 dX1_meanSeen_15 dX1_meanSeen_16 dX1_meanSeen_19 ⟨Nat.le_of_ble_eq_true rfl, Nat.le_of_ble_eq_true rfl⟩ ⟨by omega, by omega⟩ ⟨Nat.le_refl _, Nat.le_refl _⟩ (fun H H1 h h1 h2 => ⟨⟨h0, rfl⟩, kr_S.mono H H1 h h1 h2⟩)
  rw [show kr_b (decide ((List.range (sN S 2 0)).map (fun i => gA g (13, i)) = [])) = 0 from by rw [decide_eq_false (fun z => h0 (by rw [List.map_eq_nil_iff, List.range_eq_nil] at z; exact z))]; rfl]
  refine kj_if_eq X 20 dX1_meanSeen_9 (by decide) (fun c_9 => ?_) (fun c_9 => ?_)
  rotate_left
  · exact absurd rfl c_9
  refine kj_iconst (v := 0) X dX1_meanSeen_20 (by decide) ?_
  refine kj_istore_n (lv' := [_, _, _, _, _, _, _, _]) X dX1_meanSeen_21 rfl (by decide) (by intro w h _; cases h <;> first | rfl | exact kr_cat _) rfl ?_
  refine kj_aload_n X dX1_meanSeen_22 rfl rfl (by first | exact ⟨some _, rfl⟩ | exact ⟨none, rfl⟩ | exact ⟨_, rfl⟩) ?_
  refine kj_get X kc_X1 3 (by decide) q231 (Or.inl rfl) dX1_meanSeen_23 (fun H h => h.own (kc_kio)) rfl ?_
  refine kj_callF X 0 (ct_J2_iterator X.F hg.1 (Or.inl ⟨_, kc_l3⟩)) q262 q265 q267 q46 q269 q264 q263 q268 q266 q148 ⟨by decide, by decide, by decide +kernel⟩ dX1_meanSeen_26 rfl rfl (by first | exact Nat.le_of_ble_eq_true rfl | simp [kr_cat, Value.category]) ⟨Nat.le_of_ble_eq_true rfl, Nat.le_of_ble_eq_true rfl⟩ ⟨by dsimp only; omega, by dsimp only; omega⟩ kc_J2.1 (fun H h => h.list (kc_l3)) (fun E => kjx_no) (fun v_26 => ?_)
  refine kj_open (fun q hq => ?_)
  obtain ⟨hv, hq0⟩ := hq
  subst hv
  rw [kc_Zt] at hq0
  rw [kc_upt]
  rw [show (some (Value.ref q)).toList = [Value.ref (gA g (40, q))] from by rw [(hg.1 q).1]; rfl]
  refine kj_astore_n (lv' := [_, _, _, _, _, _, _, _]) X dX1_meanSeen_31 rfl (by decide) (by intro w h _; cases h <;> first | rfl | exact kr_cat _) (by first | exact ⟨some _, rfl⟩ | exact ⟨none, rfl⟩ | exact ⟨_, rfl⟩) rfl ?_
  have loop : ∀ m n lr v3 v4 v5 v6 v7, n + m = sN S 2 0 → kr_J G x 8 (kr_Q G x 1 6 (fun v H => (sN S 2 0 ≠ 0 ∧ v = some (.double (FP.ddiv (FP.i2d (oSumV S (sN S 2 0))) (FP.i2d (nI (sN S 2 0)))))) ∧ kr_S G (gA g) (kr_cells G g S Z) H) (fun E H => (sN S 2 0 = 0 ∧ E = "java/lang/ArithmeticException") ∧ kr_S G (gA g) (kr_cells G g S Z) H)) (kr_S G (gA g) (kr_cells G g S (kr_up Z (40, q) (some (kr_it (gA g) (1, 3) (nI n) lr (gM g (1, 3))))))) 1 4 32 [some (.ref (gA g (0, 0))), some (.int (oSumV S n)), some (.ref (gA g (40, q))), v3, v4, v5, v6, v7] [] := by
    intro m
    induction m with
    | zero =>
      intro n lr v3 v4 v5 v6 v7 hn'
      obtain rfl : n = sN S 2 0 := by omega
      have hj : kr_cells G g S (kr_up Z (40, q) (some (kr_it (gA g) (1, 3) (nI (sN S 2 0)) lr (gM g (1, 3))))) (40, q) = some (kr_it (gA g) (1, 3) (nI (sN S 2 0)) lr (gM g (1, 3))) := by rw [kc_Zt, kr_up_s]
      refine kj_aload_n X dX1_meanSeen_32 rfl rfl (by first | exact ⟨some _, rfl⟩ | exact ⟨none, rfl⟩ | exact ⟨_, rfl⟩) ?_
      refine kj_callF X 0 (ct_J22_hasNext X.F (Or.inl ⟨_, kc_l3⟩) (by rw [hlen]; omega) (by rw [hlen]; omega) hj) q290 q294 q296 q81 q298 q292 q291 q297 q295 q293 ⟨by decide, by decide, by decide +kernel⟩ dX1_meanSeen_33 rfl rfl (by first | exact Nat.le_of_ble_eq_true rfl | simp [kr_cat, Value.category]) ⟨Nat.le_of_ble_eq_true rfl, Nat.le_of_ble_eq_true rfl⟩ ⟨by dsimp only; omega, by dsimp only; omega⟩ kc_J22.1 (fun H h => h.rc (hj)) (fun E => kjx_no) (fun v_33 => ?_)
      refine kj_and (fun e_33 => ?_)
      subst e_33
      rw [hlen, show decide (sN S 2 0 < sN S 2 0) = false from decide_eq_false (Nat.lt_irrefl _)]
      refine kj_if_eq X 93 dX1_meanSeen_38 (by decide) (fun c_38 => ?_) (fun c_38 => ?_)
      · refine kj_iload_n X dX1_meanSeen_93 rfl rfl ?_
        refine kj_i2d X dX1_meanSeen_94 ?_
        refine kj_aload_n X dX1_meanSeen_95 rfl rfl (by first | exact ⟨some _, rfl⟩ | exact ⟨none, rfl⟩ | exact ⟨_, rfl⟩) ?_
        refine kj_get X kc_X1 3 (by decide) q231 (Or.inl rfl) dX1_meanSeen_96 (fun H h => h.own (kc_kio)) rfl ?_
        refine kj_callF X 0 (ct_J2_size X.F kc_l3) q478 q481 q483 q46 q485 q480 q479 q484 q482 q148 ⟨by decide, by decide, by decide +kernel⟩ dX1_meanSeen_99 rfl rfl (by first | exact Nat.le_of_ble_eq_true rfl | simp [kr_cat, Value.category]) ⟨Nat.le_of_ble_eq_true rfl, Nat.le_of_ble_eq_true rfl⟩ ⟨by dsimp only; omega, by dsimp only; omega⟩ kc_J2.1 (fun H h => h.list (kc_l3)) (fun E => kjx_no) (fun v_99 => ?_)
        refine kj_and (fun e_99 => ?_)
        subst e_99
        rw [hlen]
        refine kj_i2d X dX1_meanSeen_104 ?_
        refine kj_ddiv X dX1_meanSeen_105 (kr_mean_ok (by omega) hn) ?_
        exact kj_dret X dX1_meanSeen_106 (by omega) (by omega) (fun H h => ⟨⟨h0, rfl⟩, h.tidy hq0⟩)
      · exact absurd rfl c_38
    | succ m ih =>
      intro n lr v3 v4 v5 v6 v7 hn'
      have hd : n < sN S 2 0 := by omega
      have hj : kr_cells G g S (kr_up Z (40, q) (some (kr_it (gA g) (1, 3) (nI n) lr (gM g (1, 3))))) (40, q) = some (kr_it (gA g) (1, 3) (nI n) lr (gM g (1, 3))) := by rw [kc_Zt, kr_up_s]
      refine kj_aload_n X dX1_meanSeen_32 rfl rfl (by first | exact ⟨some _, rfl⟩ | exact ⟨none, rfl⟩ | exact ⟨_, rfl⟩) ?_
      refine kj_callF X 0 (ct_J22_hasNext X.F (Or.inl ⟨_, kc_l3⟩) (by rw [hlen]; omega) (by rw [hlen]; omega) hj) q290 q294 q296 q81 q298 q292 q291 q297 q295 q293 ⟨by decide, by decide, by decide +kernel⟩ dX1_meanSeen_33 rfl rfl (by first | exact Nat.le_of_ble_eq_true rfl | simp [kr_cat, Value.category]) ⟨Nat.le_of_ble_eq_true rfl, Nat.le_of_ble_eq_true rfl⟩ ⟨by dsimp only; omega, by dsimp only; omega⟩ kc_J22.1 (fun H h => h.rc (hj)) (fun E => kjx_no) (fun v_33 => ?_)
      refine kj_and (fun e_33 => ?_)
      subst e_33
      rw [hlen, show decide (n < sN S 2 0) = true from decide_eq_true hd]
      refine kj_if_eq X 93 dX1_meanSeen_38 (by decide) (fun c_38 => ?_) (fun c_38 => ?_)
      · exact absurd c_38 (by decide)
      refine kj_aload_n X dX1_meanSeen_41 rfl rfl (by first | exact ⟨some _, rfl⟩ | exact ⟨none, rfl⟩ | exact ⟨_, rfl⟩) ?_
      refine kj_callF X 0 (ct_J22_next X.F kc_l3 (a := gA g (13, n)) (by rw [List.getElem?_map, List.getElem?_range hd]; rfl) hj) q300 q303 q305 q81 q307 q302 q301 q306 q304 q293 ⟨by decide, by decide, by decide +kernel⟩ dX1_meanSeen_42 rfl rfl (by first | exact Nat.le_of_ble_eq_true rfl | simp [kr_cat, Value.category]) ⟨Nat.le_of_ble_eq_true rfl, Nat.le_of_ble_eq_true rfl⟩ ⟨by dsimp only; omega, by dsimp only; omega⟩ kc_J22.1 (fun H h => h.rc (hj)) (fun E => kjx_no) (fun v_42 => ?_)
      refine kj_and (fun e_42 => ?_)
      subst e_42
      rw [kc_upt, kr_up_up]
      generalize hZ1 : kr_up Z (40, q) (some (kr_it (gA g) (1, 3) (nI (n + 1)) (nI n) (gM g (1, 3)))) = Z1
      refine kj_ccastR X kc_X18.1 q468 dX1_meanSeen_47 (fun H h => h.at (kc_13 hd)) ?_
      refine kj_astore_n (lv' := [_, _, _, _, _, _, _, _]) X dX1_meanSeen_50 rfl (by decide) (by intro w h _; cases h <;> first | rfl | exact kr_cat _) (by first | exact ⟨some _, rfl⟩ | exact ⟨none, rfl⟩ | exact ⟨_, rfl⟩) rfl ?_
      refine kj_aload_n X dX1_meanSeen_51 rfl rfl (by first | exact ⟨some _, rfl⟩ | exact ⟨none, rfl⟩ | exact ⟨_, rfl⟩) ?_
      refine kj_getN X kc_X18 0 (by decide) q1476 rfl dX1_meanSeen_52 (fun H h => h.own (kc_13 hd)) rfl ?_
      refine kj_astore (lv' := [_, _, _, _, _, _, _, _]) X dX1_meanSeen_55 (by decide) (by intro w h _; cases h <;> first | rfl | exact kr_cat _) (by first | exact ⟨some _, rfl⟩ | exact ⟨none, rfl⟩ | exact ⟨_, rfl⟩) rfl ?_
      refine kj_aload X dX1_meanSeen_57 rfl (by first | exact ⟨some _, rfl⟩ | exact ⟨none, rfl⟩ | exact ⟨_, rfl⟩) ?_
      refine kj_alen X 0 rfl dX1_meanSeen_59 (fun H h => h.own (kc_14 hd)) rfl ?_
      refine kj_istore (lv' := [_, _, _, _, _, _, _, _]) X dX1_meanSeen_60 (by decide) (by intro w h _; cases h <;> first | rfl | exact kr_cat _) rfl ?_
      refine kj_iconst (v := 0) X dX1_meanSeen_62 (by decide) ?_
      refine kj_istore (lv' := [_, _, _, _, _, _, _, _]) X dX1_meanSeen_63 (by decide) (by intro w h _; cases h <;> first | rfl | exact kr_cat _) rfl ?_
      have inner : ∀ m2 j v7, j + m2 = 100 → kr_J G x 8 (kr_Q G x 1 6 (fun v H => (sN S 2 0 ≠ 0 ∧ v = some (.double (FP.ddiv (FP.i2d (oSumV S (sN S 2 0))) (FP.i2d (nI (sN S 2 0)))))) ∧ kr_S G (gA g) (kr_cells G g S Z) H) (fun E H => (sN S 2 0 = 0 ∧ E = "java/lang/ArithmeticException") ∧ kr_S G (gA g) (kr_cells G g S Z) H)) (kr_S G (gA g) (kr_cells G g S Z1)) 1 4 65 [some (.ref (gA g (0, 0))), some (.int (kr_sum (fun s => sI S (2 * n + 100) s) j (oSumV S n))), some (.ref (gA g (40, q))), some (.ref (gA g (13, n))), some (.ref (gA g (14, n))), some (.int 100), some (.int (nI j)), v7] [] := by
        intro m2
        induction m2 with
        | zero =>
          intro j v7 hj2
          obtain rfl : j = 100 := by omega
          refine kj_iload X dX1_meanSeen_65 rfl ?_
          refine kj_iload X dX1_meanSeen_67 rfl ?_
          refine kj_icmp_ge X 90 dX1_meanSeen_69 (by decide) (fun c_69 => ?_) (fun c_69 => ?_)
          · refine kj_goto X 32 dX1_meanSeen_90 (by decide) ?_
            subst hZ1
            exact ih (n + 1) (nI n) _ _ _ _ _ (by omega)
          · exact absurd (by decide) c_69
        | succ m2 ih2 =>
          intro j v7 hj2
          refine kj_iload X dX1_meanSeen_65 rfl ?_
          refine kj_iload X dX1_meanSeen_67 rfl ?_
          refine kj_icmp_ge X 90 dX1_meanSeen_69 (by decide) (fun c_69 => ?_) (fun c_69 => ?_)
          · exact absurd c_69 (nI_ge (b := 100) (by omega) (by decide))
          refine kj_aload X dX1_meanSeen_72 rfl (by first | exact ⟨some _, rfl⟩ | exact ⟨none, rfl⟩ | exact ⟨_, rfl⟩) ?_
          refine kj_iload X dX1_meanSeen_74 rfl ?_
          refine kj_iald X dX1_meanSeen_76 (fun H h => h.own (kc_14 hd)) (vp_in_nI (N := 100) (by omega) (by decide)) ?_
          rw [nI_clamp (by omega : j < 2 ^ 31)]
          refine kj_istore (lv' := [_, _, _, _, _, _, _, _]) X dX1_meanSeen_77 (by decide) (by intro w h _; cases h <;> first | rfl | exact kr_cat _) rfl ?_
          refine kj_iload_n X dX1_meanSeen_79 rfl rfl ?_
          refine kj_iload X dX1_meanSeen_80 rfl ?_
          refine kj_iadd X dX1_meanSeen_82 ?_
          refine kj_istore_n (lv' := [_, _, _, _, _, _, _, _]) X dX1_meanSeen_83 rfl (by decide) (by intro w h _; cases h <;> first | rfl | exact kr_cat _) rfl ?_
          refine kj_iinc (lv' := [_, _, _, _, _, _, _, _]) (w := nI (j + 1)) X dX1_meanSeen_84 (by decide) rfl (by intro w h _; cases h <;> first | rfl | exact kr_cat _) (nI_1 j) rfl ?_
          refine kj_goto X 65 dX1_meanSeen_87 (by decide) ?_
          exact ih2 (j + 1) _ (by omega)
      exact inner 100 0 _ (by decide)
  exact loop (sN S 2 0) 0 (-1) none none none none none (by omega)
theorem ct_X1_isSound (hF : kr_F G l) (hg : kr_gok g) (hV : kr_V S) (hP : kr_Pl S) (h3 : ∀ p, sN S 15 p = 1 → nHeld S p ≤ 3) (hsaw : ∀ v, v < sN S 2 0 → ∀ s, s < 100 → sI S (2 * v + 100) s ≤ 1 + sI S (2 * v + 101) s) : kr_T G l yX1_isSound (ws_ yX1_isSound cX1_isSound 5 (Option.some Jvm.ClassFile.FieldType.boolean)) 12 3400 [.ref (gA g (0, 0))] (kr_S G (gA g) (kr_cells G g S Z)) 26 68 (fun v H => v = some (.int (kr_b true)) ∧ kr_S G (gA g) (kr_cells G g S Z) H) kr_no := by
  have hK6 : sN S 1 0 ≤ 6 := hV.1.2.1
  have hN10 : sN S 2 0 ≤ 10 := hV.1.2.2.1
  have hD : sN S 14 0 = 6 := hV.1.2.2.2
  have hlen1 : ((List.range (sN S 1 0)).map fun i => gA g (5, i)).length = sN S 1 0 := by rw [List.length_map, List.length_range]
  have hlen : ((List.range (sN S 2 0)).map fun i => gA g (13, i)).length = sN S 2 0 := by rw [List.length_map, List.length_range]
  refine kr_T.of (by decide +kernel) hF (by simp [Value.category]) (Nat.le_of_ble_eq_true rfl) (fun x hx X => ?_)
  have second : ∀ cs ss v2 v3 v4, cs ≤ 25 → ss ≤ 64 → kr_J G x 5 (kr_Q G x 26 68 (fun v H => v = some (.int (kr_b true)) ∧ kr_S G (gA g) (kr_cells G g S Z) H) kr_no) (kr_S G (gA g) (kr_cells G g S Z)) cs ss 60 [some (.ref (gA g (0, 0))), some (.int 1), v2, v3, v4] [] := by
    intro cs ss v2 v3 v4 h1 h2
    refine kj_aload_n X dX1_isSound_60 rfl rfl (by first | exact ⟨some _, rfl⟩ | exact ⟨none, rfl⟩ | exact ⟨_, rfl⟩) ?_
    refine kj_get X kc_X1 3 (by decide) q231 (Or.inl rfl) dX1_isSound_61 (fun H h => h.own (kc_kio)) rfl ?_
    refine kj_callF X 0 (ct_J2_iterator X.F hg.1 (Or.inl ⟨_, kc_l3⟩)) q262 q265 q267 q46 q269 q264 q263 q268 q266 q148 ⟨by decide, by decide, by decide +kernel⟩ dX1_isSound_64 rfl rfl (by first | exact Nat.le_of_ble_eq_true rfl | simp [kr_cat, Value.category]) ⟨Nat.le_of_ble_eq_true rfl, Nat.le_of_ble_eq_true rfl⟩ ⟨by dsimp only; omega, by dsimp only; omega⟩ kc_J2.1 (fun H h => h.list (kc_l3)) (fun E => kjx_no) (fun v_64 => ?_)
    refine kj_open (fun q hq => ?_)
    obtain ⟨hv, hq0⟩ := hq
    subst hv
    rw [kc_Zt] at hq0
    rw [kc_upt]
    rw [show (some (Value.ref q)).toList = [Value.ref (gA g (40, q))] from by rw [(hg.1 q).1]; rfl]
    refine kj_astore_n (lv' := [_, _, _, _, _]) X dX1_isSound_69 rfl (by decide) (by intro w h _; cases h <;> first | rfl | exact kr_cat _) (by first | exact ⟨some _, rfl⟩ | exact ⟨none, rfl⟩ | exact ⟨_, rfl⟩) rfl ?_
    have loop : ∀ m n lr v3 v4, n + m = sN S 2 0 → kr_J G x 5 (kr_Q G x 26 68 (fun v H => v = some (.int (kr_b true)) ∧ kr_S G (gA g) (kr_cells G g S Z) H) kr_no) (kr_S G (gA g) (kr_cells G g S (kr_up Z (40, q) (some (kr_it (gA g) (1, 3) (nI n) lr (gM g (1, 3))))))) (cs + 1) (ss + 4) 70 [some (.ref (gA g (0, 0))), some (.int 1), some (.ref (gA g (40, q))), v3, v4] [] := by
      intro m
      induction m with
      | zero =>
        intro n lr v3 v4 hn'
        obtain rfl : n = sN S 2 0 := by omega
        have hj : kr_cells G g S (kr_up Z (40, q) (some (kr_it (gA g) (1, 3) (nI (sN S 2 0)) lr (gM g (1, 3))))) (40, q) = some (kr_it (gA g) (1, 3) (nI (sN S 2 0)) lr (gM g (1, 3))) := by rw [kc_Zt, kr_up_s]
        refine kj_aload_n X dX1_isSound_70 rfl rfl (by first | exact ⟨some _, rfl⟩ | exact ⟨none, rfl⟩ | exact ⟨_, rfl⟩) ?_
        refine kj_callF X 0 (ct_J22_hasNext X.F (Or.inl ⟨_, kc_l3⟩) (by rw [hlen]; omega) (by rw [hlen]; omega) hj) q290 q294 q296 q81 q298 q292 q291 q297 q295 q293 ⟨by decide, by decide, by decide +kernel⟩ dX1_isSound_71 rfl rfl (by first | exact Nat.le_of_ble_eq_true rfl | simp [kr_cat, Value.category]) ⟨Nat.le_of_ble_eq_true rfl, Nat.le_of_ble_eq_true rfl⟩ ⟨by dsimp only; omega, by dsimp only; omega⟩ kc_J22.1 (fun H h => h.rc (hj)) (fun E => kjx_no) (fun v_71 => ?_)
        refine kj_and (fun e_71 => ?_)
        subst e_71
        rw [hlen, show decide (sN S 2 0 < sN S 2 0) = false from decide_eq_false (Nat.lt_irrefl _)]
        refine kj_if_eq X 135 dX1_isSound_76 (by decide) (fun c_76 => ?_) (fun c_76 => ?_)
        · refine kj_iload_n X dX1_isSound_135 rfl rfl ?_
          exact kj_zret X rfl dX1_isSound_136 (by omega) (by omega) (fun H h => ⟨rfl, h.tidy hq0⟩)
        · exact absurd rfl c_76
      | succ m ih =>
        intro n lr v3 v4 hn'
        have hd : n < sN S 2 0 := by omega
        have hj : kr_cells G g S (kr_up Z (40, q) (some (kr_it (gA g) (1, 3) (nI n) lr (gM g (1, 3))))) (40, q) = some (kr_it (gA g) (1, 3) (nI n) lr (gM g (1, 3))) := by rw [kc_Zt, kr_up_s]
        refine kj_aload_n X dX1_isSound_70 rfl rfl (by first | exact ⟨some _, rfl⟩ | exact ⟨none, rfl⟩ | exact ⟨_, rfl⟩) ?_
        refine kj_callF X 0 (ct_J22_hasNext X.F (Or.inl ⟨_, kc_l3⟩) (by rw [hlen]; omega) (by rw [hlen]; omega) hj) q290 q294 q296 q81 q298 q292 q291 q297 q295 q293 ⟨by decide, by decide, by decide +kernel⟩ dX1_isSound_71 rfl rfl (by first | exact Nat.le_of_ble_eq_true rfl | simp [kr_cat, Value.category]) ⟨Nat.le_of_ble_eq_true rfl, Nat.le_of_ble_eq_true rfl⟩ ⟨by dsimp only; omega, by dsimp only; omega⟩ kc_J22.1 (fun H h => h.rc (hj)) (fun E => kjx_no) (fun v_71 => ?_)
        refine kj_and (fun e_71 => ?_)
        subst e_71
        rw [hlen, show decide (n < sN S 2 0) = true from decide_eq_true hd]
        refine kj_if_eq X 135 dX1_isSound_76 (by decide) (fun c_76 => ?_) (fun c_76 => ?_)
        · exact absurd c_76 (by decide)
        refine kj_aload_n X dX1_isSound_79 rfl rfl (by first | exact ⟨some _, rfl⟩ | exact ⟨none, rfl⟩ | exact ⟨_, rfl⟩) ?_
        refine kj_callF X 0 (ct_J22_next X.F kc_l3 (a := gA g (13, n)) (by rw [List.getElem?_map, List.getElem?_range hd]; rfl) hj) q300 q303 q305 q81 q307 q302 q301 q306 q304 q293 ⟨by decide, by decide, by decide +kernel⟩ dX1_isSound_80 rfl rfl (by first | exact Nat.le_of_ble_eq_true rfl | simp [kr_cat, Value.category]) ⟨Nat.le_of_ble_eq_true rfl, Nat.le_of_ble_eq_true rfl⟩ ⟨by dsimp only; omega, by dsimp only; omega⟩ kc_J22.1 (fun H h => h.rc (hj)) (fun E => kjx_no) (fun v_80 => ?_)
        refine kj_and (fun e_80 => ?_)
        subst e_80
        rw [kc_upt, kr_up_up]
        generalize hZ1 : kr_up Z (40, q) (some (kr_it (gA g) (1, 3) (nI (n + 1)) (nI n) (gM g (1, 3)))) = Z1
        refine kj_ccastR X kc_X18.1 q468 dX1_isSound_85 (fun H h => h.at (kc_13 hd)) ?_
        refine kj_astore_n (lv' := [_, _, _, _, _]) X dX1_isSound_88 rfl (by decide) (by intro w h _; cases h <;> first | rfl | exact kr_cat _) (by first | exact ⟨some _, rfl⟩ | exact ⟨none, rfl⟩ | exact ⟨_, rfl⟩) rfl ?_
        refine kj_iconst (v := 0) X dX1_isSound_89 (by decide) ?_
        refine kj_istore (lv' := [_, _, _, _, _]) X dX1_isSound_90 (by decide) (by intro w h _; cases h <;> first | rfl | exact kr_cat _) rfl ?_
        have inner : ∀ m2 j, j + m2 = 100 → kr_J G x 5 (kr_Q G x 26 68 (fun v H => v = some (.int (kr_b true)) ∧ kr_S G (gA g) (kr_cells G g S Z) H) kr_no) (kr_S G (gA g) (kr_cells G g S Z1)) (cs + 1) (ss + 4) 92 [some (.ref (gA g (0, 0))), some (.int 1), some (.ref (gA g (40, q))), some (.ref (gA g (13, n))), some (.int (nI j))] [] := by
          intro m2
          induction m2 with
          | zero =>
            intro j hj2
            obtain rfl : j = 100 := by omega
            refine kj_iload X dX1_isSound_92 rfl ?_
            refine kj_bipush (v := 100) X dX1_isSound_94 (by decide) ?_
            refine kj_icmp_ge X 132 dX1_isSound_96 (by decide) (fun c_96 => ?_) (fun c_96 => ?_)
            · refine kj_goto X 70 dX1_isSound_132 (by decide) ?_
              subst hZ1
              exact ih (n + 1) (nI n) _ _ (by omega)
            · exact absurd (by decide) c_96
          | succ m2 ih2 =>
            intro j hj2
            have hs := hsaw n hd j (by omega)
            refine kj_iload X dX1_isSound_92 rfl ?_
            refine kj_bipush (v := 100) X dX1_isSound_94 (by decide) ?_
            refine kj_icmp_ge X 132 dX1_isSound_96 (by decide) (fun c_96 => ?_) (fun c_96 => ?_)
            · exact absurd c_96 (nI_ge (b := 100) (by omega) (by decide))
            refine kj_iload_n X dX1_isSound_99 rfl rfl ?_
            refine kj_aload_n X dX1_isSound_100 rfl rfl (by first | exact ⟨some _, rfl⟩ | exact ⟨none, rfl⟩ | exact ⟨_, rfl⟩) ?_
            refine kj_getN X kc_X18 0 (by decide) q1476 rfl dX1_isSound_101 (fun H h => h.own (kc_13 hd)) rfl ?_
            refine kj_iload X dX1_isSound_104 rfl ?_
            refine kj_iald X dX1_isSound_106 (fun H h => h.own (kc_14 hd)) (vp_in_nI (N := 100) (by omega) (by decide)) ?_
            refine kj_iconst (v := 1) X dX1_isSound_107 (by decide) ?_
            refine kj_aload_n X dX1_isSound_108 rfl rfl (by first | exact ⟨some _, rfl⟩ | exact ⟨none, rfl⟩ | exact ⟨_, rfl⟩) ?_
            refine kj_getN X kc_X18 1 (by decide) q1478 rfl dX1_isSound_109 (fun H h => h.own (kc_13 hd)) rfl ?_
            refine kj_iload X dX1_isSound_112 rfl ?_
            refine kj_iald X dX1_isSound_114 (fun H h => h.own (kc_15 hd)) (vp_in_nI (N := 100) (by omega) (by decide)) ?_
            rw [nI_clamp (by omega : j < 2 ^ 31)]
            refine kj_iadd X dX1_isSound_115 ?_
            refine kj_icmp_gt X 123 dX1_isSound_116 (by decide) (fun c_116 => ?_) (fun c_116 => ?_)
            · exact absurd c_116 (Int32.not_lt.mpr hs)
            refine kj_iconst (v := 1) X dX1_isSound_119 (by decide) ?_
            refine kj_goto X 124 dX1_isSound_120 (by decide) ?_
            refine kj_iand X dX1_isSound_124 ?_
            rw [show (1 : Int32) &&& 1 = 1 from rfl]
            refine kj_istore_n (lv' := [_, _, _, _, _]) X dX1_isSound_125 rfl (by decide) (by intro w h _; cases h <;> first | rfl | exact kr_cat _) rfl ?_
            refine kj_iinc (lv' := [_, _, _, _, _]) (w := nI (j + 1)) X dX1_isSound_126 (by decide) rfl (by intro w h _; cases h <;> first | rfl | exact kr_cat _) (nI_1 j) rfl ?_
            refine kj_goto X 92 dX1_isSound_129 (by decide) ?_
            exact ih2 (j + 1) (by omega)
        exact inner 100 0 (by decide)
    exact loop (sN S 2 0) 0 (-1) _ _ (by omega)
  refine kj_iconst (v := 1) X dX1_isSound_0 (by decide) ?_
  refine kj_istore_n (lv' := [_, _, _, _, _]) X dX1_isSound_1 rfl (by decide) (by intro w h _; cases h <;> first | rfl | exact kr_cat _) rfl ?_
  refine kj_aload_n X dX1_isSound_2 rfl rfl (by first | exact ⟨some _, rfl⟩ | exact ⟨none, rfl⟩ | exact ⟨_, rfl⟩) ?_
  refine kj_get X kc_X1 1 (by decide) q227 (Or.inl rfl) dX1_isSound_3 (fun H h => h.own (kc_kio)) rfl ?_
  refine kj_callF X 0 (ct_J2_iterator X.F hg.1 (Or.inl ⟨_, kc_l1⟩)) q262 q265 q267 q46 q269 q264 q263 q268 q266 q148 ⟨by decide, by decide, by decide +kernel⟩ dX1_isSound_6 rfl rfl (by first | exact Nat.le_of_ble_eq_true rfl | simp [kr_cat, Value.category]) ⟨Nat.le_of_ble_eq_true rfl, Nat.le_of_ble_eq_true rfl⟩ ⟨by dsimp only; omega, by dsimp only; omega⟩ kc_J2.1 (fun H h => h.list (kc_l1)) (fun E => kjx_no) (fun v_6 => ?_)
  refine kj_open (fun q hq => ?_)
  obtain ⟨hv, hq0⟩ := hq
  subst hv
  rw [kc_Zt] at hq0
  rw [kc_upt]
  rw [show (some (Value.ref q)).toList = [Value.ref (gA g (40, q))] from by rw [(hg.1 q).1]; rfl]
  refine kj_astore_n (lv' := [_, _, _, _, _]) X dX1_isSound_11 rfl (by decide) (by intro w h _; cases h <;> first | rfl | exact kr_cat _) (by first | exact ⟨some _, rfl⟩ | exact ⟨none, rfl⟩ | exact ⟨_, rfl⟩) rfl ?_
  have loop1 : ∀ m n lr v3 v4 cs ss, n + m = sN S 1 0 → cs ≤ 1 + 4 * n → ss ≤ 4 + 10 * n → kr_J G x 5 (kr_Q G x 26 68 (fun v H => v = some (.int (kr_b true)) ∧ kr_S G (gA g) (kr_cells G g S Z) H) kr_no) (kr_S G (gA g) (kr_cells G g S (kr_up Z (40, q) (some (kr_it (gA g) (1, 1) (nI n) lr (gM g (1, 1))))))) cs ss 12 [some (.ref (gA g (0, 0))), some (.int 1), some (.ref (gA g (40, q))), v3, v4] [] := by
    intro m
    induction m with
    | zero =>
      intro n lr v3 v4 cs ss hn' h1 h2
      obtain rfl : n = sN S 1 0 := by omega
      have hj : kr_cells G g S (kr_up Z (40, q) (some (kr_it (gA g) (1, 1) (nI (sN S 1 0)) lr (gM g (1, 1))))) (40, q) = some (kr_it (gA g) (1, 1) (nI (sN S 1 0)) lr (gM g (1, 1))) := by rw [kc_Zt, kr_up_s]
      refine kj_aload_n X dX1_isSound_12 rfl rfl (by first | exact ⟨some _, rfl⟩ | exact ⟨none, rfl⟩ | exact ⟨_, rfl⟩) ?_
      refine kj_callF X 0 (ct_J22_hasNext X.F (Or.inl ⟨_, kc_l1⟩) (by rw [hlen1]; omega) (by rw [hlen1]; omega) hj) q290 q294 q296 q81 q298 q292 q291 q297 q295 q293 ⟨by decide, by decide, by decide +kernel⟩ dX1_isSound_13 rfl rfl (by first | exact Nat.le_of_ble_eq_true rfl | simp [kr_cat, Value.category]) ⟨Nat.le_of_ble_eq_true rfl, Nat.le_of_ble_eq_true rfl⟩ ⟨by dsimp only; omega, by dsimp only; omega⟩ kc_J22.1 (fun H h => h.rc (hj)) (fun E => kjx_no) (fun v_13 => ?_)
      refine kj_and (fun e_13 => ?_)
      subst e_13
      rw [hlen1, show decide (sN S 1 0 < sN S 1 0) = false from decide_eq_false (Nat.lt_irrefl _)]
      refine kj_if_eq X 60 dX1_isSound_18 (by decide) (fun c_18 => ?_) (fun c_18 => ?_)
      · exact kj_P (fun H h => h.tidy hq0) (second _ _ _ _ _ (by omega) (by omega))
      · exact absurd rfl c_18
    | succ m ih =>
      intro n lr v3 v4 cs ss hn' h1 h2
      have hd : n < sN S 1 0 := by omega
      have hj : kr_cells G g S (kr_up Z (40, q) (some (kr_it (gA g) (1, 1) (nI n) lr (gM g (1, 1))))) (40, q) = some (kr_it (gA g) (1, 1) (nI n) lr (gM g (1, 1))) := by rw [kc_Zt, kr_up_s]
      refine kj_aload_n X dX1_isSound_12 rfl rfl (by first | exact ⟨some _, rfl⟩ | exact ⟨none, rfl⟩ | exact ⟨_, rfl⟩) ?_
      refine kj_callF X 0 (ct_J22_hasNext X.F (Or.inl ⟨_, kc_l1⟩) (by rw [hlen1]; omega) (by rw [hlen1]; omega) hj) q290 q294 q296 q81 q298 q292 q291 q297 q295 q293 ⟨by decide, by decide, by decide +kernel⟩ dX1_isSound_13 rfl rfl (by first | exact Nat.le_of_ble_eq_true rfl | simp [kr_cat, Value.category]) ⟨Nat.le_of_ble_eq_true rfl, Nat.le_of_ble_eq_true rfl⟩ ⟨by dsimp only; omega, by dsimp only; omega⟩ kc_J22.1 (fun H h => h.rc (hj)) (fun E => kjx_no) (fun v_13 => ?_)
      refine kj_and (fun e_13 => ?_)
      subst e_13
      rw [hlen1, show decide (n < sN S 1 0) = true from decide_eq_true hd]
      refine kj_if_eq X 60 dX1_isSound_18 (by decide) (fun c_18 => ?_) (fun c_18 => ?_)
      · exact absurd c_18 (by decide)
      refine kj_aload_n X dX1_isSound_21 rfl rfl (by first | exact ⟨some _, rfl⟩ | exact ⟨none, rfl⟩ | exact ⟨_, rfl⟩) ?_
      refine kj_callF X 0 (ct_J22_next X.F kc_l1 (a := gA g (5, n)) (by rw [List.getElem?_map, List.getElem?_range hd]; rfl) hj) q300 q303 q305 q81 q307 q302 q301 q306 q304 q293 ⟨by decide, by decide, by decide +kernel⟩ dX1_isSound_22 rfl rfl (by first | exact Nat.le_of_ble_eq_true rfl | simp [kr_cat, Value.category]) ⟨Nat.le_of_ble_eq_true rfl, Nat.le_of_ble_eq_true rfl⟩ ⟨by dsimp only; omega, by dsimp only; omega⟩ kc_J22.1 (fun H h => h.rc (hj)) (fun E => kjx_no) (fun v_22 => ?_)
      refine kj_and (fun e_22 => ?_)
      subst e_22
      rw [kc_upt, kr_up_up]
      have nxt := fun v3 v4 cs ss => ih (n + 1) (nI n) v3 v4 cs ss (by omega)
      generalize hZ1 : kr_up Z (40, q) (some (kr_it (gA g) (1, 1) (nI (n + 1)) (nI n) (gM g (1, 1)))) = Z1 at nxt ⊢
      have h50 : ∀ v4 cs ss, cs ≤ 1 + 4 * (n + 1) → ss ≤ 4 + 10 * (n + 1) → kr_J G x 5 (kr_Q G x 26 68 (fun v H => v = some (.int (kr_b true)) ∧ kr_S G (gA g) (kr_cells G g S Z) H) kr_no) (kr_S G (gA g) (kr_cells G g S Z1)) cs ss 50 [some (.ref (gA g (0, 0))), some (.int 1), some (.ref (gA g (40, q))), some (.ref (gA g (5, n))), v4] [.int 1] := by
        intro v4 cs ss h1 h2
        refine kj_iconst (v := 1) X dX1_isSound_50 (by decide) ?_
        refine kj_goto X 55 dX1_isSound_51 (by decide) ?_
        refine kj_iand X dX1_isSound_55 ?_
        rw [show (1 : Int32) &&& 1 = 1 from rfl]
        refine kj_istore_n (lv' := [_, _, _, _, _]) X dX1_isSound_56 rfl (by decide) (by intro w h _; cases h <;> first | rfl | exact kr_cat _) rfl ?_
        refine kj_goto X 12 dX1_isSound_57 (by decide) ?_
        exact nxt _ _ _ _ h1 h2
      refine kj_ccastR X kc_X15.1 q404 dX1_isSound_27 (fun H h => h.at (kc_5 hd)) ?_
      refine kj_astore_n (lv' := [_, _, _, _, _]) X dX1_isSound_30 rfl (by decide) (by intro w h _; cases h <;> first | rfl | exact kr_cat _) (by first | exact ⟨some _, rfl⟩ | exact ⟨none, rfl⟩ | exact ⟨_, rfl⟩) rfl ?_
      by_cases ho : sN S 3 n = 1
      · have k5 : kr_cells G g S Z1 (5, n) = kr_o 6 [.int (nI n), .ref (gA g (6, n)), va_rf (some (gA g (7, n))), .int (nI (sN S 6 n)), .int (nI (sN S 7 n)), .int (sI S 3 n), .int (sI S 4 n)] := by
          rw [kc_5 hd, kr_ow_1 ho]
        have hp : sN S 15 n = 1 := (hP.1.1 n).mpr ⟨hd, ho⟩
        obtain ⟨-, -, ⟨p4, p5⟩, -, -⟩ := hV.2.2.2.2.1 n hp
        refine kj_iload_n X dX1_isSound_31 rfl rfl ?_
        refine kj_aload_n X dX1_isSound_32 rfl rfl (by first | exact ⟨some _, rfl⟩ | exact ⟨none, rfl⟩ | exact ⟨_, rfl⟩) ?_
        refine kj_getN X kc_X15 2 (by decide) q1071 rfl dX1_isSound_33 (fun H h => h.own (k5)) rfl ?_
        refine kj_ifnull X (by first | exact Eq.refl (va_rf (some _)) | exact Eq.refl (va_rf none) | exact Eq.refl (va_rf _)) 50 dX1_isSound_36 (by decide) (fun c_36 => ?_) (fun a_36 c_36 => ?_)
        · cases c_36
        refine kj_aload_n X dX1_isSound_39 rfl rfl (by first | exact ⟨some _, rfl⟩ | exact ⟨none, rfl⟩ | exact ⟨_, rfl⟩) ?_
        refine kj_aload_n X dX1_isSound_40 rfl rfl (by first | exact ⟨some _, rfl⟩ | exact ⟨none, rfl⟩ | exact ⟨_, rfl⟩) ?_
        refine kj_getN X kc_X15 2 (by decide) q1071 rfl dX1_isSound_41 (fun H h => h.own (k5)) rfl ?_
        refine kj_callV X 1 (ct_X1_isSoundPlayer X.F hg hD hp (fun d hd => (hV.2.2.2.2.2.1 d (by omega)).1) (fun d hd => hV.2.1.2.1 d hd) (h3 n hp) p5 p4) (lw_V q405 q407 qs5 q43 q408) ⟨rfl, by decide, by decide, by decide +kernel⟩ dX1_isSound_44 rfl rfl (by first | exact Nat.le_of_ble_eq_true rfl | simp [kr_cat, Value.category]) ⟨Nat.le_of_ble_eq_true rfl, Nat.le_of_ble_eq_true rfl⟩ ⟨by dsimp only; omega, by dsimp only; omega⟩ kc_X1.1 (fun H h => h.rc (kc_kio)) (fun E => kjx_no) (fun v_44 => ?_)
        refine kj_and (fun e_44 => ?_)
        subst e_44
        refine kj_if_eq X 54 dX1_isSound_47 (by decide) (fun c_47 => ?_) (fun c_47 => ?_)
        · exact absurd c_47 (by decide)
        exact h50 _ _ _ (by omega) (by omega)
      · have k5 : kr_cells G g S Z1 (5, n) = kr_o 6 [.int (nI n), .ref (gA g (6, n)), va_rf none, .int (nI (sN S 6 n)), .int (nI (sN S 7 n)), .int (sI S 3 n), .int (sI S 4 n)] := by
          rw [kc_5 hd, kr_ow_0 ho]
        refine kj_iload_n X dX1_isSound_31 rfl rfl ?_
        refine kj_aload_n X dX1_isSound_32 rfl rfl (by first | exact ⟨some _, rfl⟩ | exact ⟨none, rfl⟩ | exact ⟨_, rfl⟩) ?_
        refine kj_getN X kc_X15 2 (by decide) q1071 rfl dX1_isSound_33 (fun H h => h.own (k5)) rfl ?_
        refine kj_ifnull X (by first | exact Eq.refl (va_rf (some _)) | exact Eq.refl (va_rf none) | exact Eq.refl (va_rf _)) 50 dX1_isSound_36 (by decide) (fun c_36 => ?_) (fun a_36 c_36 => ?_)
        · exact h50 _ _ _ (by omega) (by omega)
        · cases c_36
  exact loop1 (sN S 1 0) 0 (-1) none none 1 4 (by omega) (by omega) (by omega)
end
