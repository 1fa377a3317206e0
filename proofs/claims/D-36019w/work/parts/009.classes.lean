/-! the classes that have objects in a run, by number; the array types, by number; the lambda sites -/
def kr_cl : List vw_C := [(RX1, TX1, 6), (RX3, TX3, 32), (RX2, TX2, 2), (RX4, TX4, 2), (RX17, TX17, 3), (RX16, TX16, 6), (RX15, TX15, 7), (RX18, TX18, 4), (RX6, TX6, 1), (RX7, TX7, 1), (RX8, TX8, 1), (RX9, TX9, 1), (RX10, TX10, 1), (RX11, TX11, 1), (RX12, TX12, 1), (RX13, TX13, 1), (RX14, TX14, 1), (RJ2, TJ2, 3), (RJ22, TJ22, 4)]
def kr_tyl : List FieldType := [.int, .boolean, .long, .double, .char, .byte, .object "java/lang/Object", .object "KioskReel$Line", .object "KioskReel$Show", .object "KioskReel$Pause", .object "KioskReel$Take", .object "KioskReel$Free", .object "KioskReel$GoTo", .object "KioskReel$IfAlone", .object "KioskReel$Loop", .object "KioskReel$SetCount", .object "KioskReel$PlayList"]
def kr_tys (dA : Nat → ClassId) : List (ClassId × FieldType) := [(dA 0, .int), (dA 1, .boolean), (dA 2, .long), (dA 3, .double), (dA 4, .char), (dA 5, .byte), (dA 6, .object "java/lang/Object"), (dA 7, .object "KioskReel$Line"), (dA 8, .object "KioskReel$Show"), (dA 9, .object "KioskReel$Pause"), (dA 10, .object "KioskReel$Take"), (dA 11, .object "KioskReel$Free"), (dA 12, .object "KioskReel$GoTo"), (dA 13, .object "KioskReel$IfAlone"), (dA 14, .object "KioskReel$Loop"), (dA 15, .object "KioskReel$SetCount"), (dA 16, .object "KioskReel$PlayList")]
def kr_site : Nat → Cond := fun k => match k with
  | 0 => siteWord_1_1
  | 1 => siteWord_1_2
  | 2 => siteWord_1_3
  | 3 => siteWord_1_4
  | 4 => siteWord_1_5
  | 5 => siteWord_1_6
  | 6 => siteWord_1_7
  | _ => siteWord_1_8
def kr_siteAt (w : Cond) (c : ClassId) (s : State) : Prop := match w with
  | .lambdaSite y pc index sh => ∃ one, s.lambdaAt? y pc index sh = some (c, one)
  | _ => True
/-- what an entry of the class table says, with its words -/
def kr_cls (ci : Nat) (C : String) (T : u_T) (N : Nat) (ty : Nat → FieldType) : Prop :=
  kr_cl[ci]? = some (C, T, N) ∧ (∀ w ∈ u_ws C T N, w ∈ lw_all) ∧ (∀ k, k < N → parseFieldDescriptor (T k).2.2.1 = some (ty k)) ∧ (∀ a, a < N → ∀ b, b < N → a ≠ b → (T a).2.1 ≠ (T b).2.1)
theorem kc_X1 : kr_cls 0 RX1 TX1 6 tyX1 := ⟨rfl, in_X1, tyX1_ok, nmX1⟩
theorem kc_X3 : kr_cls 1 RX3 TX3 32 tyX3 := ⟨rfl, in_X3, tyX3_ok, nmX3⟩
theorem kc_X2 : kr_cls 2 RX2 TX2 2 tyX2 := ⟨rfl, in_X2, tyX2_ok, nmX2⟩
theorem kc_X4 : kr_cls 3 RX4 TX4 2 tyX4 := ⟨rfl, in_X4, tyX4_ok, nmX4⟩
theorem kc_X17 : kr_cls 4 RX17 TX17 3 tyX17 := ⟨rfl, in_X17, tyX17_ok, nmX17⟩
theorem kc_X16 : kr_cls 5 RX16 TX16 6 tyX16 := ⟨rfl, in_X16, tyX16_ok, nmX16⟩
theorem kc_X15 : kr_cls 6 RX15 TX15 7 tyX15 := ⟨rfl, in_X15, tyX15_ok, nmX15⟩
theorem kc_X18 : kr_cls 7 RX18 TX18 4 tyX18 := ⟨rfl, in_X18, tyX18_ok, nmX18⟩
theorem kc_X6 : kr_cls 8 RX6 TX6 1 tyX6 := ⟨rfl, in_X6, tyX6_ok, nmX6⟩
theorem kc_X7 : kr_cls 9 RX7 TX7 1 tyX7 := ⟨rfl, in_X7, tyX7_ok, nmX7⟩
theorem kc_X8 : kr_cls 10 RX8 TX8 1 tyX8 := ⟨rfl, in_X8, tyX8_ok, nmX8⟩
theorem kc_X9 : kr_cls 11 RX9 TX9 1 tyX9 := ⟨rfl, in_X9, tyX9_ok, nmX9⟩
theorem kc_X10 : kr_cls 12 RX10 TX10 1 tyX10 := ⟨rfl, in_X10, tyX10_ok, nmX10⟩
theorem kc_X11 : kr_cls 13 RX11 TX11 1 tyX11 := ⟨rfl, in_X11, tyX11_ok, nmX11⟩
theorem kc_X12 : kr_cls 14 RX12 TX12 1 tyX12 := ⟨rfl, in_X12, tyX12_ok, nmX12⟩
theorem kc_X13 : kr_cls 15 RX13 TX13 1 tyX13 := ⟨rfl, in_X13, tyX13_ok, nmX13⟩
theorem kc_X14 : kr_cls 16 RX14 TX14 1 tyX14 := ⟨rfl, in_X14, tyX14_ok, nmX14⟩
theorem kc_J2 : kr_cls 17 RJ2 TJ2 3 tyJ2 := ⟨rfl, in_J2, tyJ2_ok, nmJ2⟩
theorem kc_J22 : kr_cls 18 RJ22 TJ22 4 tyJ22 := ⟨rfl, in_J22, tyJ22_ok, nmJ22⟩
