/-! KioskReel$Device -/
set_option maxRecDepth 100000
def RX2 : String := "KioskReel$Device"
def TX2 : u_T := fun k => match k with
  | 0 => ("KioskReel$Device", "queue", "Ljava/util/List;", true)
  | _ => ("KioskReel$Device", "holder", "LKioskReel$Player;", false)
def tyX2 : Nat → FieldType := fun k => match k with
  | 0 => .object "java/util/List"
  | _ => .object "KioskReel$Player"
abbrev wsX20 : List Cond := u_ws RX2 TX2 2
theorem nmX2 : ∀ a, a < 2 → ∀ b, b < 2 → a ≠ b → (TX2 a).2.1 ≠ (TX2 b).2.1 := by decide +kernel
theorem tyX2_ok : ∀ k, k < 2 → parseFieldDescriptor (TX2 k).2.2.1 = some (tyX2 k) := by decide +kernel
abbrev cX2_init : ByteArray := prog_2_method_1_code
def yX2_init : MethodName := ⟨RX2, "<init>", "()V"⟩
def dkwX2_init_0 : List UInt8 := [42, 183, 0, 1, 42, 187, 0, 7, 89, 183, 0, 9, 181, 0, 10, 177]
abbrev dktX2_init_0 : List UInt8 := dkwX2_init_0 ++ []
theorem dksX2_init_0 : cX2_init.data.toList.drop 0 = dktX2_init_0 := by decide +kernel
theorem dX2_init_0 : decode cX2_init 0 = .ok (.aload_n 0, 1) := dk_42 (dk_at dksX2_init_0 0 rfl rfl)
theorem dX2_init_1 : decode cX2_init 1 = .ok (.invokespecial 1, 3) := dk_183 0 1 (dk_at dksX2_init_0 1 rfl rfl)
theorem dX2_init_4 : decode cX2_init 4 = .ok (.aload_n 0, 1) := dk_42 (dk_at dksX2_init_0 4 rfl rfl)
theorem dX2_init_5 : decode cX2_init 5 = .ok (.new 7, 3) := dk_187 0 7 (dk_at dksX2_init_0 5 rfl rfl)
theorem dX2_init_8 : decode cX2_init 8 = .ok (.dup, 1) := dk_89 (dk_at dksX2_init_0 8 rfl rfl)
theorem dX2_init_9 : decode cX2_init 9 = .ok (.invokespecial 9, 3) := dk_183 0 9 (dk_at dksX2_init_0 9 rfl rfl)
theorem dX2_init_12 : decode cX2_init 12 = .ok (.putfield 10, 3) := dk_181 0 10 (dk_at dksX2_init_0 12 rfl rfl)
theorem dX2_init_15 : decode cX2_init 15 = .ok (.return_, 1) := dk_177 (dk_at dksX2_init_0 15 rfl rfl)
abbrev cX2_free : ByteArray := prog_2_method_2_code
def yX2_free : MethodName := ⟨RX2, "free", "()V"⟩
def dkwX2_free_2 : List UInt8 := [181, 0, 32, 177]
abbrev dktX2_free_2 : List UInt8 := dkwX2_free_2 ++ []
def dkwX2_free_1 : List UInt8 := [185, 0, 22, 2, 0, 192, 0, 26, 181, 0, 28, 42, 180, 0, 28, 198, 0, 11, 42, 180, 0, 28, 3]
abbrev dktX2_free_1 : List UInt8 := dkwX2_free_1 ++ dktX2_free_2
def dkwX2_free_0 : List UInt8 := [42, 42, 180, 0, 10, 185, 0, 16, 1, 0, 153, 0, 7, 1, 167, 0, 16, 42, 180, 0, 10, 3]
abbrev dktX2_free_0 : List UInt8 := dkwX2_free_0 ++ dktX2_free_1
theorem dksX2_free_0 : cX2_free.data.toList.drop 0 = dktX2_free_0 := by decide +kernel
theorem dksX2_free_1 : cX2_free.data.toList.drop 22 = dktX2_free_1 := dk_seg dksX2_free_0 22 rfl rfl
theorem dksX2_free_2 : cX2_free.data.toList.drop 45 = dktX2_free_2 := dk_seg dksX2_free_1 23 rfl rfl
theorem dX2_free_0 : decode cX2_free 0 = .ok (.aload_n 0, 1) := dk_42 (dk_at dksX2_free_0 0 rfl rfl)
theorem dX2_free_1 : decode cX2_free 1 = .ok (.aload_n 0, 1) := dk_42 (dk_at dksX2_free_0 1 rfl rfl)
theorem dX2_free_2 : decode cX2_free 2 = .ok (.getfield 10, 3) := dk_180 0 10 (dk_at dksX2_free_0 2 rfl rfl)
theorem dX2_free_5 : decode cX2_free 5 = .ok (.invokeinterface 16 1, 5) := by decide +kernel
theorem dX2_free_10 : decode cX2_free 10 = .ok (.ifCond .eq 7, 3) := dk_153 0 7 (dk_at dksX2_free_0 10 rfl rfl)
theorem dX2_free_13 : decode cX2_free 13 = .ok (.aconst_null, 1) := dk_1 (dk_at dksX2_free_0 13 rfl rfl)
theorem dX2_free_14 : decode cX2_free 14 = .ok (.goto 16, 3) := dk_167 0 16 (dk_at dksX2_free_0 14 rfl rfl)
theorem dX2_free_17 : decode cX2_free 17 = .ok (.aload_n 0, 1) := dk_42 (dk_at dksX2_free_0 17 rfl rfl)
theorem dX2_free_18 : decode cX2_free 18 = .ok (.getfield 10, 3) := dk_180 0 10 (dk_at dksX2_free_0 18 rfl rfl)
theorem dX2_free_21 : decode cX2_free 21 = .ok (.iconst 0, 1) := dk_3 (dk_at dksX2_free_0 21 rfl rfl)
theorem dX2_free_22 : decode cX2_free 22 = .ok (.invokeinterface 22 2, 5) := by decide +kernel
theorem dX2_free_27 : decode cX2_free 27 = .ok (.checkcast 26, 3) := dk_192 0 26 (dk_at dksX2_free_1 5 rfl rfl)
theorem dX2_free_30 : decode cX2_free 30 = .ok (.putfield 28, 3) := dk_181 0 28 (dk_at dksX2_free_1 8 rfl rfl)
theorem dX2_free_33 : decode cX2_free 33 = .ok (.aload_n 0, 1) := dk_42 (dk_at dksX2_free_1 11 rfl rfl)
theorem dX2_free_34 : decode cX2_free 34 = .ok (.getfield 28, 3) := dk_180 0 28 (dk_at dksX2_free_1 12 rfl rfl)
theorem dX2_free_37 : decode cX2_free 37 = .ok (.ifnull 11, 3) := dk_198 0 11 (dk_at dksX2_free_1 15 rfl rfl)
theorem dX2_free_40 : decode cX2_free 40 = .ok (.aload_n 0, 1) := dk_42 (dk_at dksX2_free_1 18 rfl rfl)
theorem dX2_free_41 : decode cX2_free 41 = .ok (.getfield 28, 3) := dk_180 0 28 (dk_at dksX2_free_1 19 rfl rfl)
theorem dX2_free_44 : decode cX2_free 44 = .ok (.iconst 0, 1) := dk_3 (dk_at dksX2_free_1 22 rfl rfl)
theorem dX2_free_45 : decode cX2_free 45 = .ok (.putfield 32, 3) := dk_181 0 32 (dk_at dksX2_free_2 0 rfl rfl)
theorem dX2_free_48 : decode cX2_free 48 = .ok (.return_, 1) := dk_177 (dk_at dksX2_free_2 3 rfl rfl)
theorem q47 : (Jvm.Cond.initialized "KioskReel$Device") ∈ lw_all := lw_g (lw_at lw_m1 5 rfl) rfl
theorem q127 : (Jvm.Cond.instantiable "KioskReel$Device" (2 : Nat)) ∈ lw_all := lw_g (lw_at lw_m1 85 rfl) rfl
theorem q129 : (Jvm.Cond.instanceMethod ({ cls := "KioskReel$Device", name := "<init>", desc := "()V" } : Jvm.MethodName)) ∈ lw_all := lw_g (lw_at lw_m1 87 rfl) rfl
theorem q130 : (Jvm.Cond.code ({ cls := "KioskReel$Device", name := "<init>", desc := "()V" } : Jvm.MethodName) prog_2_method_1_code (1 : Nat) (Option.none : Option Jvm.ClassFile.FieldType)) ∈ lw_all := lw_g (lw_at lw_m1 88 rfl) rfl
theorem q131 : (Jvm.Cond.methodLink "KioskReel$Device" (1 : Nat) ({ cls := "java/lang/Object", name := "<init>", desc := "()V" } : Jvm.MethodName)) ∈ lw_all := lw_g (lw_at lw_m1 89 rfl) rfl
theorem q132 : (Jvm.Cond.classLink "KioskReel$Device" (7 : Nat) "java/util/ArrayList") ∈ lw_all := lw_g (lw_at lw_m1 90 rfl) rfl
theorem q133 : (Jvm.Cond.methodLink "KioskReel$Device" (9 : Nat) ({ cls := "java/util/ArrayList", name := "<init>", desc := "()V" } : Jvm.MethodName)) ∈ lw_all := lw_g (lw_at lw_m1 91 rfl) rfl
theorem q134 : (Jvm.Cond.fieldLink "KioskReel$Device" (10 : Nat) "KioskReel$Device" "queue" "Ljava/util/List;") ∈ lw_all := lw_g (lw_at lw_m1 92 rfl) rfl
theorem q137 : (Jvm.Cond.fieldLink "KioskReel$Device" (28 : Nat) "KioskReel$Device" "holder" "LKioskReel$Player;") ∈ lw_all := lw_g (lw_at lw_m1 95 rfl) rfl
theorem q139 : (Jvm.Cond.laysFinal "KioskReel$Device" "KioskReel$Device" "queue" "Ljava/util/List;") ∈ lw_all := lw_g (lw_at lw_m1 97 rfl) rfl
theorem q140 : (Jvm.Cond.soleField "KioskReel$Device" "queue") ∈ lw_all := lw_g (lw_at lw_m1 98 rfl) rfl
theorem q141 : (Jvm.Cond.lays "KioskReel$Device" "KioskReel$Device" "holder" "LKioskReel$Player;") ∈ lw_all := lw_g (lw_at lw_m1 99 rfl) rfl
theorem q142 : (Jvm.Cond.soleField "KioskReel$Device" "holder") ∈ lw_all := lw_g (lw_at lw_m1 100 rfl) rfl
theorem q143 : (Jvm.Cond.superclass "KioskReel$Device" "java/lang/Object") ∈ lw_all := lw_g (lw_at lw_m1 101 rfl) rfl
theorem q183 : (Jvm.Cond.selects "KioskReel$Device" ({ cls := "java/lang/Object", name := "getClass", desc := "()Ljava/lang/Class;" } : Jvm.MethodName) ({ cls := "java/lang/Object", name := "getClass", desc := "()Ljava/lang/Class;" } : Jvm.MethodName)) ∈ lw_all := lw_g (lw_at lw_m1 141 rfl) rfl
theorem q433 : (Jvm.Cond.selects "KioskReel$Device" ({ cls := "java/lang/Object", name := "equals", desc := "(Ljava/lang/Object;)Z" } : Jvm.MethodName) ({ cls := "java/lang/Object", name := "equals", desc := "(Ljava/lang/Object;)Z" } : Jvm.MethodName)) ∈ lw_all := lw_g (lw_at lw_m2 151 rfl) rfl
theorem q1150 : (Jvm.Cond.fieldLinkNest "KioskReel$Device" (32 : Nat) "KioskReel$Player" "isQueued" "Z" "KioskReel") ∈ lw_tbl := lw_at lw_m5 148 rfl
theorem q1214 : (Jvm.Cond.instanceMethod ({ cls := "KioskReel$Device", name := "free", desc := "()V" } : Jvm.MethodName)) ∈ lw_all := lw_g (lw_at lw_m5 212 rfl) rfl
theorem q1215 : (Jvm.Cond.selects "KioskReel$Device" ({ cls := "KioskReel$Device", name := "free", desc := "()V" } : Jvm.MethodName) ({ cls := "KioskReel$Device", name := "free", desc := "()V" } : Jvm.MethodName)) ∈ lw_all := lw_g (lw_at lw_m5 213 rfl) rfl
theorem q1216 : (Jvm.Cond.code ({ cls := "KioskReel$Device", name := "free", desc := "()V" } : Jvm.MethodName) prog_2_method_2_code (1 : Nat) (Option.none : Option Jvm.ClassFile.FieldType)) ∈ lw_all := lw_g (lw_at lw_m5 214 rfl) rfl
theorem q1217 : (Jvm.Cond.interfaceEntry "KioskReel$Device" (16 : Nat)) ∈ lw_tbl := lw_at lw_m5 215 rfl
theorem q1218 : (Jvm.Cond.methodLink "KioskReel$Device" (16 : Nat) ({ cls := "java/util/List", name := "isEmpty", desc := "()Z" } : Jvm.MethodName)) ∈ lw_all := lw_g (lw_at lw_m5 216 rfl) rfl
theorem q1226 : (Jvm.Cond.interfaceEntry "KioskReel$Device" (22 : Nat)) ∈ lw_tbl := lw_at lw_m5 224 rfl
theorem q1227 : (Jvm.Cond.methodLink "KioskReel$Device" (22 : Nat) ({ cls := "java/util/List", name := "remove", desc := "(I)Ljava/lang/Object;" } : Jvm.MethodName)) ∈ lw_all := lw_g (lw_at lw_m5 225 rfl) rfl
theorem q1228 : (Jvm.Cond.classLink "KioskReel$Device" (26 : Nat) "KioskReel$Player") ∈ lw_all := lw_g (lw_at lw_m5 226 rfl) rfl
theorem q1898 : (Jvm.Cond.castable "KioskReel$Device" "java/lang/Object") ∈ lw_tbl := lw_at lw_m8 176 rfl
theorem in_X2 : ∀ w ∈ wsX20, w ∈ lw_all := lw_in wsX20 [139, 141] (by decide +kernel) (by decide +kernel)

/-! KioskReel$Playlist -/
set_option maxRecDepth 100000
def RX4 : String := "KioskReel$Playlist"
def TX4 : u_T := fun k => match k with
  | 0 => ("KioskReel$Playlist", "lines", "Ljava/util/List;", true)
  | _ => ("KioskReel$Playlist", "now", "[LKioskReel$Line;", false)
def tyX4 : Nat → FieldType := fun k => match k with
  | 0 => .object "java/util/List"
  | _ => .array (.object "KioskReel$Line")
abbrev wsX40 : List Cond := u_ws RX4 TX4 2
theorem nmX4 : ∀ a, a < 2 → ∀ b, b < 2 → a ≠ b → (TX4 a).2.1 ≠ (TX4 b).2.1 := by decide +kernel
theorem tyX4_ok : ∀ k, k < 2 → parseFieldDescriptor (TX4 k).2.2.1 = some (tyX4 k) := by decide +kernel
abbrev cX4_init : ByteArray := prog_14_method_1_code
def yX4_init : MethodName := ⟨RX4, "<init>", "()V"⟩
def dkwX4_init_0 : List UInt8 := [42, 183, 0, 1, 42, 187, 0, 7, 89, 183, 0, 9, 181, 0, 10, 42, 3, 189, 0, 16, 181, 0, 18, 177]
abbrev dktX4_init_0 : List UInt8 := dkwX4_init_0 ++ []
theorem dksX4_init_0 : cX4_init.data.toList.drop 0 = dktX4_init_0 := by decide +kernel
theorem dX4_init_0 : decode cX4_init 0 = .ok (.aload_n 0, 1) := dk_42 (dk_at dksX4_init_0 0 rfl rfl)
theorem dX4_init_1 : decode cX4_init 1 = .ok (.invokespecial 1, 3) := dk_183 0 1 (dk_at dksX4_init_0 1 rfl rfl)
theorem dX4_init_4 : decode cX4_init 4 = .ok (.aload_n 0, 1) := dk_42 (dk_at dksX4_init_0 4 rfl rfl)
theorem dX4_init_5 : decode cX4_init 5 = .ok (.new 7, 3) := dk_187 0 7 (dk_at dksX4_init_0 5 rfl rfl)
theorem dX4_init_8 : decode cX4_init 8 = .ok (.dup, 1) := dk_89 (dk_at dksX4_init_0 8 rfl rfl)
theorem dX4_init_9 : decode cX4_init 9 = .ok (.invokespecial 9, 3) := dk_183 0 9 (dk_at dksX4_init_0 9 rfl rfl)
theorem dX4_init_12 : decode cX4_init 12 = .ok (.putfield 10, 3) := dk_181 0 10 (dk_at dksX4_init_0 12 rfl rfl)
theorem dX4_init_15 : decode cX4_init 15 = .ok (.aload_n 0, 1) := dk_42 (dk_at dksX4_init_0 15 rfl rfl)
theorem dX4_init_16 : decode cX4_init 16 = .ok (.iconst 0, 1) := dk_3 (dk_at dksX4_init_0 16 rfl rfl)
theorem dX4_init_17 : decode cX4_init 17 = .ok (.anewarray 16, 3) := dk_189 0 16 (dk_at dksX4_init_0 17 rfl rfl)
theorem dX4_init_20 : decode cX4_init 20 = .ok (.putfield 18, 3) := dk_181 0 18 (dk_at dksX4_init_0 20 rfl rfl)
theorem dX4_init_23 : decode cX4_init 23 = .ok (.return_, 1) := dk_177 (dk_at dksX4_init_0 23 rfl rfl)
abbrev cX4_change : ByteArray := prog_14_method_2_code
def yX4_change : MethodName := ⟨RX4, "change", "()V"⟩
def dkwX4_change_2 : List UInt8 := [132, 1, 1, 167, 255, 225, 177]
abbrev dktX4_change_2 : List UInt8 := dkwX4_change_2 ++ []
def dkwX4_change_1 : List UInt8 := [162, 0, 28, 42, 180, 0, 18, 27, 42, 180, 0, 10, 27, 185, 0, 28, 2, 0, 192, 0, 16, 83]
abbrev dktX4_change_1 : List UInt8 := dkwX4_change_1 ++ dktX4_change_2
def dkwX4_change_0 : List UInt8 := [42, 42, 180, 0, 10, 185, 0, 22, 1, 0, 189, 0, 16, 181, 0, 18, 3, 60, 27, 42, 180, 0, 18, 190]
abbrev dktX4_change_0 : List UInt8 := dkwX4_change_0 ++ dktX4_change_1
theorem dksX4_change_0 : cX4_change.data.toList.drop 0 = dktX4_change_0 := by decide +kernel
theorem dksX4_change_1 : cX4_change.data.toList.drop 24 = dktX4_change_1 := dk_seg dksX4_change_0 24 rfl rfl
theorem dksX4_change_2 : cX4_change.data.toList.drop 46 = dktX4_change_2 := dk_seg dksX4_change_1 22 rfl rfl
theorem dX4_change_0 : decode cX4_change 0 = .ok (.aload_n 0, 1) := dk_42 (dk_at dksX4_change_0 0 rfl rfl)
theorem dX4_change_1 : decode cX4_change 1 = .ok (.aload_n 0, 1) := dk_42 (dk_at dksX4_change_0 1 rfl rfl)
theorem dX4_change_2 : decode cX4_change 2 = .ok (.getfield 10, 3) := dk_180 0 10 (dk_at dksX4_change_0 2 rfl rfl)
theorem dX4_change_5 : decode cX4_change 5 = .ok (.invokeinterface 22 1, 5) := by decide +kernel
theorem dX4_change_10 : decode cX4_change 10 = .ok (.anewarray 16, 3) := dk_189 0 16 (dk_at dksX4_change_0 10 rfl rfl)
theorem dX4_change_13 : decode cX4_change 13 = .ok (.putfield 18, 3) := dk_181 0 18 (dk_at dksX4_change_0 13 rfl rfl)
theorem dX4_change_16 : decode cX4_change 16 = .ok (.iconst 0, 1) := dk_3 (dk_at dksX4_change_0 16 rfl rfl)
theorem dX4_change_17 : decode cX4_change 17 = .ok (.istore_n 1, 1) := dk_60 (dk_at dksX4_change_0 17 rfl rfl)
theorem dX4_change_18 : decode cX4_change 18 = .ok (.iload_n 1, 1) := dk_27 (dk_at dksX4_change_0 18 rfl rfl)
theorem dX4_change_19 : decode cX4_change 19 = .ok (.aload_n 0, 1) := dk_42 (dk_at dksX4_change_0 19 rfl rfl)
theorem dX4_change_20 : decode cX4_change 20 = .ok (.getfield 18, 3) := dk_180 0 18 (dk_at dksX4_change_0 20 rfl rfl)
theorem dX4_change_23 : decode cX4_change 23 = .ok (.arraylength, 1) := dk_190 (dk_at dksX4_change_0 23 rfl rfl)
theorem dX4_change_24 : decode cX4_change 24 = .ok (.if_icmp .ge 28, 3) := dk_162 0 28 (dk_at dksX4_change_1 0 rfl rfl)
theorem dX4_change_27 : decode cX4_change 27 = .ok (.aload_n 0, 1) := dk_42 (dk_at dksX4_change_1 3 rfl rfl)
theorem dX4_change_28 : decode cX4_change 28 = .ok (.getfield 18, 3) := dk_180 0 18 (dk_at dksX4_change_1 4 rfl rfl)
theorem dX4_change_31 : decode cX4_change 31 = .ok (.iload_n 1, 1) := dk_27 (dk_at dksX4_change_1 7 rfl rfl)
theorem dX4_change_32 : decode cX4_change 32 = .ok (.aload_n 0, 1) := dk_42 (dk_at dksX4_change_1 8 rfl rfl)
theorem dX4_change_33 : decode cX4_change 33 = .ok (.getfield 10, 3) := dk_180 0 10 (dk_at dksX4_change_1 9 rfl rfl)
theorem dX4_change_36 : decode cX4_change 36 = .ok (.iload_n 1, 1) := dk_27 (dk_at dksX4_change_1 12 rfl rfl)
theorem dX4_change_37 : decode cX4_change 37 = .ok (.invokeinterface 28 2, 5) := by decide +kernel
theorem dX4_change_42 : decode cX4_change 42 = .ok (.checkcast 16, 3) := dk_192 0 16 (dk_at dksX4_change_1 18 rfl rfl)
theorem dX4_change_45 : decode cX4_change 45 = .ok (.aastore, 1) := dk_83 (dk_at dksX4_change_1 21 rfl rfl)
theorem dX4_change_46 : decode cX4_change 46 = .ok (.iinc 1 1, 3) := dk_132 1 1 (dk_at dksX4_change_2 0 rfl rfl)
theorem dX4_change_49 : decode cX4_change 49 = .ok (.goto (-31), 3) := dk_167 255 225 (dk_at dksX4_change_2 3 rfl rfl)
theorem dX4_change_52 : decode cX4_change 52 = .ok (.return_, 1) := dk_177 (dk_at dksX4_change_2 6 rfl rfl)
theorem q57 : (Jvm.Cond.initialized "KioskReel$Playlist") ∈ lw_all := lw_g (lw_at lw_m1 15 rfl) rfl
theorem q193 : (Jvm.Cond.selects "KioskReel$Playlist" ({ cls := "java/lang/Object", name := "getClass", desc := "()Ljava/lang/Class;" } : Jvm.MethodName) ({ cls := "java/lang/Object", name := "getClass", desc := "()Ljava/lang/Class;" } : Jvm.MethodName)) ∈ lw_all := lw_g (lw_at lw_m1 151 rfl) rfl
theorem q443 : (Jvm.Cond.selects "KioskReel$Playlist" ({ cls := "java/lang/Object", name := "equals", desc := "(Ljava/lang/Object;)Z" } : Jvm.MethodName) ({ cls := "java/lang/Object", name := "equals", desc := "(Ljava/lang/Object;)Z" } : Jvm.MethodName)) ∈ lw_all := lw_g (lw_at lw_m2 161 rfl) rfl
theorem q505 : (Jvm.Cond.instantiable "KioskReel$Playlist" (2 : Nat)) ∈ lw_all := lw_g (lw_at lw_m2 223 rfl) rfl
theorem q507 : (Jvm.Cond.instanceMethod ({ cls := "KioskReel$Playlist", name := "<init>", desc := "()V" } : Jvm.MethodName)) ∈ lw_all := lw_g (lw_at lw_m2 225 rfl) rfl
theorem q508 : (Jvm.Cond.code ({ cls := "KioskReel$Playlist", name := "<init>", desc := "()V" } : Jvm.MethodName) prog_14_method_1_code (1 : Nat) (Option.none : Option Jvm.ClassFile.FieldType)) ∈ lw_all := lw_g (lw_at lw_m2 226 rfl) rfl
theorem q509 : (Jvm.Cond.methodLink "KioskReel$Playlist" (1 : Nat) ({ cls := "java/lang/Object", name := "<init>", desc := "()V" } : Jvm.MethodName)) ∈ lw_all := lw_g (lw_at lw_m2 227 rfl) rfl
theorem q510 : (Jvm.Cond.classLink "KioskReel$Playlist" (7 : Nat) "java/util/ArrayList") ∈ lw_all := lw_g (lw_at lw_m2 228 rfl) rfl
theorem q511 : (Jvm.Cond.methodLink "KioskReel$Playlist" (9 : Nat) ({ cls := "java/util/ArrayList", name := "<init>", desc := "()V" } : Jvm.MethodName)) ∈ lw_all := lw_g (lw_at lw_m2 229 rfl) rfl
theorem q512 : (Jvm.Cond.classLink "KioskReel$Playlist" (16 : Nat) "KioskReel$Line") ∈ lw_all := lw_g (lw_at lw_m2 230 rfl) rfl
theorem q514 : (Jvm.Cond.fieldLink "KioskReel$Playlist" (10 : Nat) "KioskReel$Playlist" "lines" "Ljava/util/List;") ∈ lw_all := lw_g (lw_at lw_m2 232 rfl) rfl
theorem q517 : (Jvm.Cond.fieldLink "KioskReel$Playlist" (18 : Nat) "KioskReel$Playlist" "now" "[LKioskReel$Line;") ∈ lw_all := lw_g (lw_at lw_m2 235 rfl) rfl
theorem q518 : (Jvm.Cond.laysFinal "KioskReel$Playlist" "KioskReel$Playlist" "lines" "Ljava/util/List;") ∈ lw_all := lw_g (lw_at lw_m2 236 rfl) rfl
theorem q519 : (Jvm.Cond.soleField "KioskReel$Playlist" "lines") ∈ lw_all := lw_g (lw_at lw_m2 237 rfl) rfl
theorem q520 : (Jvm.Cond.lays "KioskReel$Playlist" "KioskReel$Playlist" "now" "[LKioskReel$Line;") ∈ lw_all := lw_g (lw_at lw_m2 238 rfl) rfl
theorem q521 : (Jvm.Cond.soleField "KioskReel$Playlist" "now") ∈ lw_all := lw_g (lw_at lw_m2 239 rfl) rfl
theorem q522 : (Jvm.Cond.superclass "KioskReel$Playlist" "java/lang/Object") ∈ lw_all := lw_g (lw_at lw_m3 0 rfl) rfl
theorem q963 : (Jvm.Cond.instanceMethod ({ cls := "KioskReel$Playlist", name := "change", desc := "()V" } : Jvm.MethodName)) ∈ lw_all := lw_g (lw_at lw_m4 201 rfl) rfl
theorem q964 : (Jvm.Cond.selects "KioskReel$Playlist" ({ cls := "KioskReel$Playlist", name := "change", desc := "()V" } : Jvm.MethodName) ({ cls := "KioskReel$Playlist", name := "change", desc := "()V" } : Jvm.MethodName)) ∈ lw_all := lw_g (lw_at lw_m4 202 rfl) rfl
theorem q965 : (Jvm.Cond.code ({ cls := "KioskReel$Playlist", name := "change", desc := "()V" } : Jvm.MethodName) prog_14_method_2_code (2 : Nat) (Option.none : Option Jvm.ClassFile.FieldType)) ∈ lw_all := lw_g (lw_at lw_m4 203 rfl) rfl
theorem q966 : (Jvm.Cond.interfaceEntry "KioskReel$Playlist" (22 : Nat)) ∈ lw_tbl := lw_at lw_m4 204 rfl
theorem q967 : (Jvm.Cond.methodLink "KioskReel$Playlist" (22 : Nat) ({ cls := "java/util/List", name := "size", desc := "()I" } : Jvm.MethodName)) ∈ lw_all := lw_g (lw_at lw_m4 205 rfl) rfl
theorem q968 : (Jvm.Cond.interfaceEntry "KioskReel$Playlist" (28 : Nat)) ∈ lw_tbl := lw_at lw_m4 206 rfl
theorem q969 : (Jvm.Cond.methodLink "KioskReel$Playlist" (28 : Nat) ({ cls := "java/util/List", name := "get", desc := "(I)Ljava/lang/Object;" } : Jvm.MethodName)) ∈ lw_all := lw_g (lw_at lw_m4 207 rfl) rfl
theorem q1901 : (Jvm.Cond.castable "KioskReel$Playlist" "java/lang/Object") ∈ lw_tbl := lw_at lw_m8 179 rfl
theorem in_X4 : ∀ w ∈ wsX40, w ∈ lw_all := lw_in wsX40 [518, 520] (by decide +kernel) (by decide +kernel)

/-! KioskReel$Line -/
set_option maxRecDepth 100000
def RX5 : String := "KioskReel$Line"
abbrev cX5_init : ByteArray := prog_9_method_1_code
def yX5_init : MethodName := ⟨RX5, "<init>", "(I)V"⟩
def dkwX5_init_0 : List UInt8 := [42, 183, 0, 1, 42, 27, 181, 0, 7, 177]
abbrev dktX5_init_0 : List UInt8 := dkwX5_init_0 ++ []
theorem dksX5_init_0 : cX5_init.data.toList.drop 0 = dktX5_init_0 := by decide +kernel
theorem dX5_init_0 : decode cX5_init 0 = .ok (.aload_n 0, 1) := dk_42 (dk_at dksX5_init_0 0 rfl rfl)
theorem dX5_init_1 : decode cX5_init 1 = .ok (.invokespecial 1, 3) := dk_183 0 1 (dk_at dksX5_init_0 1 rfl rfl)
theorem dX5_init_4 : decode cX5_init 4 = .ok (.aload_n 0, 1) := dk_42 (dk_at dksX5_init_0 4 rfl rfl)
theorem dX5_init_5 : decode cX5_init 5 = .ok (.iload_n 1, 1) := dk_27 (dk_at dksX5_init_0 5 rfl rfl)
theorem dX5_init_6 : decode cX5_init 6 = .ok (.putfield 7, 3) := dk_181 0 7 (dk_at dksX5_init_0 6 rfl rfl)
theorem dX5_init_9 : decode cX5_init 9 = .ok (.return_, 1) := dk_177 (dk_at dksX5_init_0 9 rfl rfl)
theorem q63 : (Jvm.Cond.initialized "KioskReel$Line") ∈ lw_all := lw_g (lw_at lw_m1 21 rfl) rfl
theorem q617 : (Jvm.Cond.instanceMethod ({ cls := "KioskReel$Line", name := "<init>", desc := "(I)V" } : Jvm.MethodName)) ∈ lw_all := lw_g (lw_at lw_m3 95 rfl) rfl
theorem q618 : (Jvm.Cond.code ({ cls := "KioskReel$Line", name := "<init>", desc := "(I)V" } : Jvm.MethodName) prog_9_method_1_code (2 : Nat) (Option.none : Option Jvm.ClassFile.FieldType)) ∈ lw_all := lw_g (lw_at lw_m3 96 rfl) rfl
theorem q619 : (Jvm.Cond.methodLink "KioskReel$Line" (1 : Nat) ({ cls := "java/lang/Object", name := "<init>", desc := "()V" } : Jvm.MethodName)) ∈ lw_all := lw_g (lw_at lw_m3 97 rfl) rfl
theorem q620 : (Jvm.Cond.fieldLink "KioskReel$Line" (7 : Nat) "KioskReel$Line" "number" "I") ∈ lw_all := lw_g (lw_at lw_m3 98 rfl) rfl
theorem q631 : (Jvm.Cond.soleField "KioskReel$Line" "number") ∈ lw_all := lw_g (lw_at lw_m3 109 rfl) rfl
theorem q1320 : (Jvm.Cond.declares ({ cls := "KioskReel$Line", name := "act", desc := "(LKioskReel;LKioskReel$Player;LKioskReel$Kiosk;)Z" } : Jvm.MethodName)) ∈ lw_tbl := lw_at lw_m6 78 rfl
theorem q1321 : (Jvm.Cond.sameMethod "KioskReel$Line" "KioskReel$Line" "act" "(LKioskReel;LKioskReel$Player;LKioskReel$Kiosk;)Z") ∈ lw_all := lw_g (lw_at lw_m6 79 rfl) rfl
theorem q1886 : (Jvm.Cond.castable "KioskReel$Line" "java/lang/Object") ∈ lw_tbl := lw_at lw_m8 164 rfl

/-! KioskReel$Show -/
set_option maxRecDepth 100000
def RX6 : String := "KioskReel$Show"
def TX6 : u_T := fun k => match k with
  | _ => ("KioskReel$Line", "number", "I", true)
def tyX6 : Nat → FieldType := fun k => match k with
  | _ => .int
abbrev wsX60 : List Cond := u_ws RX6 TX6 1
theorem nmX6 : ∀ a, a < 1 → ∀ b, b < 1 → a ≠ b → (TX6 a).2.1 ≠ (TX6 b).2.1 := by decide +kernel
theorem tyX6_ok : ∀ k, k < 1 → parseFieldDescriptor (TX6 k).2.2.1 = some (tyX6 k) := by decide +kernel
abbrev cX6_init : ByteArray := prog_16_method_1_code
def yX6_init : MethodName := ⟨RX6, "<init>", "(I)V"⟩
def dkwX6_init_0 : List UInt8 := [42, 27, 183, 0, 1, 177]
abbrev dktX6_init_0 : List UInt8 := dkwX6_init_0 ++ []
theorem dksX6_init_0 : cX6_init.data.toList.drop 0 = dktX6_init_0 := by decide +kernel
theorem dX6_init_0 : decode cX6_init 0 = .ok (.aload_n 0, 1) := dk_42 (dk_at dksX6_init_0 0 rfl rfl)
theorem dX6_init_1 : decode cX6_init 1 = .ok (.iload_n 1, 1) := dk_27 (dk_at dksX6_init_0 1 rfl rfl)
theorem dX6_init_2 : decode cX6_init 2 = .ok (.invokespecial 1, 3) := dk_183 0 1 (dk_at dksX6_init_0 2 rfl rfl)
theorem dX6_init_5 : decode cX6_init 5 = .ok (.return_, 1) := dk_177 (dk_at dksX6_init_0 5 rfl rfl)
abbrev cX6_act : ByteArray := prog_16_method_2_code
def yX6_act : MethodName := ⟨RX6, "act", "(LKioskReel;LKioskReel$Player;LKioskReel$Kiosk;)Z"⟩
def dkwX6_act_0 : List UInt8 := [43, 45, 42, 180, 0, 7, 182, 0, 11, 154, 0, 7, 4, 167, 0, 4, 3, 172]
abbrev dktX6_act_0 : List UInt8 := dkwX6_act_0 ++ []
theorem dksX6_act_0 : cX6_act.data.toList.drop 0 = dktX6_act_0 := by decide +kernel
theorem dX6_act_0 : decode cX6_act 0 = .ok (.aload_n 1, 1) := dk_43 (dk_at dksX6_act_0 0 rfl rfl)
theorem dX6_act_1 : decode cX6_act 1 = .ok (.aload_n 3, 1) := dk_45 (dk_at dksX6_act_0 1 rfl rfl)
theorem dX6_act_2 : decode cX6_act 2 = .ok (.aload_n 0, 1) := dk_42 (dk_at dksX6_act_0 2 rfl rfl)
theorem dX6_act_3 : decode cX6_act 3 = .ok (.getfield 7, 3) := dk_180 0 7 (dk_at dksX6_act_0 3 rfl rfl)
theorem dX6_act_6 : decode cX6_act 6 = .ok (.invokevirtual 11, 3) := dk_182 0 11 (dk_at dksX6_act_0 6 rfl rfl)
theorem dX6_act_9 : decode cX6_act 9 = .ok (.ifCond .ne 7, 3) := dk_154 0 7 (dk_at dksX6_act_0 9 rfl rfl)
theorem dX6_act_12 : decode cX6_act 12 = .ok (.iconst 1, 1) := dk_4 (dk_at dksX6_act_0 12 rfl rfl)
theorem dX6_act_13 : decode cX6_act 13 = .ok (.goto 4, 3) := dk_167 0 4 (dk_at dksX6_act_0 13 rfl rfl)
theorem dX6_act_16 : decode cX6_act 16 = .ok (.iconst 0, 1) := dk_3 (dk_at dksX6_act_0 16 rfl rfl)
theorem dX6_act_17 : decode cX6_act 17 = .ok (.ireturn, 1) := dk_172 (dk_at dksX6_act_0 17 rfl rfl)
theorem q64 : (Jvm.Cond.initialized "KioskReel$Show") ∈ lw_all := lw_g (lw_at lw_m1 22 rfl) rfl
theorem q195 : (Jvm.Cond.selects "KioskReel$Show" ({ cls := "java/lang/Object", name := "getClass", desc := "()Ljava/lang/Class;" } : Jvm.MethodName) ({ cls := "java/lang/Object", name := "getClass", desc := "()Ljava/lang/Class;" } : Jvm.MethodName)) ∈ lw_all := lw_g (lw_at lw_m1 153 rfl) rfl
theorem q445 : (Jvm.Cond.selects "KioskReel$Show" ({ cls := "java/lang/Object", name := "equals", desc := "(Ljava/lang/Object;)Z" } : Jvm.MethodName) ({ cls := "java/lang/Object", name := "equals", desc := "(Ljava/lang/Object;)Z" } : Jvm.MethodName)) ∈ lw_all := lw_g (lw_at lw_m2 163 rfl) rfl
theorem q612 : (Jvm.Cond.instantiable "KioskReel$Show" (1 : Nat)) ∈ lw_all := lw_g (lw_at lw_m3 90 rfl) rfl
theorem q614 : (Jvm.Cond.instanceMethod ({ cls := "KioskReel$Show", name := "<init>", desc := "(I)V" } : Jvm.MethodName)) ∈ lw_all := lw_g (lw_at lw_m3 92 rfl) rfl
theorem q615 : (Jvm.Cond.code ({ cls := "KioskReel$Show", name := "<init>", desc := "(I)V" } : Jvm.MethodName) prog_16_method_1_code (2 : Nat) (Option.none : Option Jvm.ClassFile.FieldType)) ∈ lw_all := lw_g (lw_at lw_m3 93 rfl) rfl
theorem q616 : (Jvm.Cond.methodLink "KioskReel$Show" (1 : Nat) ({ cls := "KioskReel$Line", name := "<init>", desc := "(I)V" } : Jvm.MethodName)) ∈ lw_all := lw_g (lw_at lw_m3 94 rfl) rfl
theorem q624 : (Jvm.Cond.fieldLinkNest "KioskReel$Show" (7 : Nat) "KioskReel$Line" "number" "I" "KioskReel") ∈ lw_tbl := lw_at lw_m3 102 rfl
theorem q630 : (Jvm.Cond.laysFinal "KioskReel$Show" "KioskReel$Line" "number" "I") ∈ lw_all := lw_g (lw_at lw_m3 108 rfl) rfl
theorem q632 : (Jvm.Cond.superclass "KioskReel$Show" "KioskReel$Line") ∈ lw_all := lw_g (lw_at lw_m3 110 rfl) rfl
theorem q1369 : (Jvm.Cond.selects "KioskReel$Show" ({ cls := "KioskReel$Line", name := "act", desc := "(LKioskReel;LKioskReel$Player;LKioskReel$Kiosk;)Z" } : Jvm.MethodName) ({ cls := "KioskReel$Show", name := "act", desc := "(LKioskReel;LKioskReel$Player;LKioskReel$Kiosk;)Z" } : Jvm.MethodName)) ∈ lw_all := lw_g (lw_at lw_m6 127 rfl) rfl
theorem q1370 : (Jvm.Cond.instanceMethod ({ cls := "KioskReel$Show", name := "act", desc := "(LKioskReel;LKioskReel$Player;LKioskReel$Kiosk;)Z" } : Jvm.MethodName)) ∈ lw_all := lw_g (lw_at lw_m6 128 rfl) rfl
theorem q1371 : (Jvm.Cond.code ({ cls := "KioskReel$Show", name := "act", desc := "(LKioskReel;LKioskReel$Player;LKioskReel$Kiosk;)Z" } : Jvm.MethodName) prog_16_method_2_code (4 : Nat) (Option.some Jvm.ClassFile.FieldType.boolean)) ∈ lw_all := lw_g (lw_at lw_m6 129 rfl) rfl
theorem q1372 : (Jvm.Cond.methodLinkNest "KioskReel$Show" (11 : Nat) ({ cls := "KioskReel", name := "show", desc := "(LKioskReel$Kiosk;I)Z" } : Jvm.MethodName) "KioskReel") ∈ lw_tbl := lw_at lw_m6 130 rfl
theorem q1884 : (Jvm.Cond.castable "KioskReel$Show" "KioskReel$Line") ∈ lw_tbl := lw_at lw_m8 162 rfl
theorem q1887 : (Jvm.Cond.castable "KioskReel$Show" "java/lang/Object") ∈ lw_tbl := lw_at lw_m8 165 rfl
theorem in_X6 : ∀ w ∈ wsX60, w ∈ lw_all := lw_in wsX60 [630] (by decide +kernel) (by decide +kernel)

/-! KioskReel$Pause -/
set_option maxRecDepth 100000
def RX7 : String := "KioskReel$Pause"
def TX7 : u_T := fun k => match k with
  | _ => ("KioskReel$Line", "number", "I", true)
def tyX7 : Nat → FieldType := fun k => match k with
  | _ => .int
abbrev wsX70 : List Cond := u_ws RX7 TX7 1
theorem nmX7 : ∀ a, a < 1 → ∀ b, b < 1 → a ≠ b → (TX7 a).2.1 ≠ (TX7 b).2.1 := by decide +kernel
theorem tyX7_ok : ∀ k, k < 1 → parseFieldDescriptor (TX7 k).2.2.1 = some (tyX7 k) := by decide +kernel
abbrev cX7_init : ByteArray := prog_11_method_1_code
def yX7_init : MethodName := ⟨RX7, "<init>", "(I)V"⟩
def dkwX7_init_0 : List UInt8 := [42, 27, 183, 0, 1, 177]
abbrev dktX7_init_0 : List UInt8 := dkwX7_init_0 ++ []
theorem dksX7_init_0 : cX7_init.data.toList.drop 0 = dktX7_init_0 := by decide +kernel
theorem dX7_init_0 : decode cX7_init 0 = .ok (.aload_n 0, 1) := dk_42 (dk_at dksX7_init_0 0 rfl rfl)
theorem dX7_init_1 : decode cX7_init 1 = .ok (.iload_n 1, 1) := dk_27 (dk_at dksX7_init_0 1 rfl rfl)
theorem dX7_init_2 : decode cX7_init 2 = .ok (.invokespecial 1, 3) := dk_183 0 1 (dk_at dksX7_init_0 2 rfl rfl)
theorem dX7_init_5 : decode cX7_init 5 = .ok (.return_, 1) := dk_177 (dk_at dksX7_init_0 5 rfl rfl)
abbrev cX7_act : ByteArray := prog_11_method_2_code
def yX7_act : MethodName := ⟨RX7, "act", "(LKioskReel;LKioskReel$Player;LKioskReel$Kiosk;)Z"⟩
def dkwX7_act_0 : List UInt8 := [44, 42, 180, 0, 7, 4, 100, 181, 0, 11, 3, 172]
abbrev dktX7_act_0 : List UInt8 := dkwX7_act_0 ++ []
theorem dksX7_act_0 : cX7_act.data.toList.drop 0 = dktX7_act_0 := by decide +kernel
theorem dX7_act_0 : decode cX7_act 0 = .ok (.aload_n 2, 1) := dk_44 (dk_at dksX7_act_0 0 rfl rfl)
theorem dX7_act_1 : decode cX7_act 1 = .ok (.aload_n 0, 1) := dk_42 (dk_at dksX7_act_0 1 rfl rfl)
theorem dX7_act_2 : decode cX7_act 2 = .ok (.getfield 7, 3) := dk_180 0 7 (dk_at dksX7_act_0 2 rfl rfl)
theorem dX7_act_5 : decode cX7_act 5 = .ok (.iconst 1, 1) := dk_4 (dk_at dksX7_act_0 5 rfl rfl)
theorem dX7_act_6 : decode cX7_act 6 = .ok (.isub, 1) := dk_100 (dk_at dksX7_act_0 6 rfl rfl)
theorem dX7_act_7 : decode cX7_act 7 = .ok (.putfield 11, 3) := dk_181 0 11 (dk_at dksX7_act_0 7 rfl rfl)
theorem dX7_act_10 : decode cX7_act 10 = .ok (.iconst 0, 1) := dk_3 (dk_at dksX7_act_0 10 rfl rfl)
theorem dX7_act_11 : decode cX7_act 11 = .ok (.ireturn, 1) := dk_172 (dk_at dksX7_act_0 11 rfl rfl)
theorem q65 : (Jvm.Cond.initialized "KioskReel$Pause") ∈ lw_all := lw_g (lw_at lw_m1 23 rfl) rfl
theorem q190 : (Jvm.Cond.selects "KioskReel$Pause" ({ cls := "java/lang/Object", name := "getClass", desc := "()Ljava/lang/Class;" } : Jvm.MethodName) ({ cls := "java/lang/Object", name := "getClass", desc := "()Ljava/lang/Class;" } : Jvm.MethodName)) ∈ lw_all := lw_g (lw_at lw_m1 148 rfl) rfl
theorem q440 : (Jvm.Cond.selects "KioskReel$Pause" ({ cls := "java/lang/Object", name := "equals", desc := "(Ljava/lang/Object;)Z" } : Jvm.MethodName) ({ cls := "java/lang/Object", name := "equals", desc := "(Ljava/lang/Object;)Z" } : Jvm.MethodName)) ∈ lw_all := lw_g (lw_at lw_m2 158 rfl) rfl
theorem q622 : (Jvm.Cond.fieldLinkNest "KioskReel$Pause" (7 : Nat) "KioskReel$Line" "number" "I" "KioskReel") ∈ lw_tbl := lw_at lw_m3 100 rfl
theorem q634 : (Jvm.Cond.instantiable "KioskReel$Pause" (1 : Nat)) ∈ lw_all := lw_g (lw_at lw_m3 112 rfl) rfl
theorem q636 : (Jvm.Cond.instanceMethod ({ cls := "KioskReel$Pause", name := "<init>", desc := "(I)V" } : Jvm.MethodName)) ∈ lw_all := lw_g (lw_at lw_m3 114 rfl) rfl
theorem q637 : (Jvm.Cond.code ({ cls := "KioskReel$Pause", name := "<init>", desc := "(I)V" } : Jvm.MethodName) prog_11_method_1_code (2 : Nat) (Option.none : Option Jvm.ClassFile.FieldType)) ∈ lw_all := lw_g (lw_at lw_m3 115 rfl) rfl
theorem q638 : (Jvm.Cond.methodLink "KioskReel$Pause" (1 : Nat) ({ cls := "KioskReel$Line", name := "<init>", desc := "(I)V" } : Jvm.MethodName)) ∈ lw_all := lw_g (lw_at lw_m3 116 rfl) rfl
theorem q639 : (Jvm.Cond.laysFinal "KioskReel$Pause" "KioskReel$Line" "number" "I") ∈ lw_all := lw_g (lw_at lw_m3 117 rfl) rfl
theorem q640 : (Jvm.Cond.superclass "KioskReel$Pause" "KioskReel$Line") ∈ lw_all := lw_g (lw_at lw_m3 118 rfl) rfl
theorem q1147 : (Jvm.Cond.fieldLinkNest "KioskReel$Pause" (11 : Nat) "KioskReel$Player" "wait" "I" "KioskReel") ∈ lw_tbl := lw_at lw_m5 145 rfl
theorem q1351 : (Jvm.Cond.selects "KioskReel$Pause" ({ cls := "KioskReel$Line", name := "act", desc := "(LKioskReel;LKioskReel$Player;LKioskReel$Kiosk;)Z" } : Jvm.MethodName) ({ cls := "KioskReel$Pause", name := "act", desc := "(LKioskReel;LKioskReel$Player;LKioskReel$Kiosk;)Z" } : Jvm.MethodName)) ∈ lw_all := lw_g (lw_at lw_m6 109 rfl) rfl
theorem q1352 : (Jvm.Cond.instanceMethod ({ cls := "KioskReel$Pause", name := "act", desc := "(LKioskReel;LKioskReel$Player;LKioskReel$Kiosk;)Z" } : Jvm.MethodName)) ∈ lw_all := lw_g (lw_at lw_m6 110 rfl) rfl
theorem q1353 : (Jvm.Cond.code ({ cls := "KioskReel$Pause", name := "act", desc := "(LKioskReel;LKioskReel$Player;LKioskReel$Kiosk;)Z" } : Jvm.MethodName) prog_11_method_2_code (4 : Nat) (Option.some Jvm.ClassFile.FieldType.boolean)) ∈ lw_all := lw_g (lw_at lw_m6 111 rfl) rfl
theorem q1881 : (Jvm.Cond.castable "KioskReel$Pause" "KioskReel$Line") ∈ lw_tbl := lw_at lw_m8 159 rfl
theorem q1888 : (Jvm.Cond.castable "KioskReel$Pause" "java/lang/Object") ∈ lw_tbl := lw_at lw_m8 166 rfl
theorem in_X7 : ∀ w ∈ wsX70, w ∈ lw_all := lw_in wsX70 [639] (by decide +kernel) (by decide +kernel)

/-! KioskReel$Take -/
set_option maxRecDepth 100000
def RX8 : String := "KioskReel$Take"
def TX8 : u_T := fun k => match k with
  | _ => ("KioskReel$Line", "number", "I", true)
def tyX8 : Nat → FieldType := fun k => match k with
  | _ => .int
abbrev wsX80 : List Cond := u_ws RX8 TX8 1
theorem nmX8 : ∀ a, a < 1 → ∀ b, b < 1 → a ≠ b → (TX8 a).2.1 ≠ (TX8 b).2.1 := by decide +kernel
theorem tyX8_ok : ∀ k, k < 1 → parseFieldDescriptor (TX8 k).2.2.1 = some (tyX8 k) := by decide +kernel
abbrev cX8_init : ByteArray := prog_17_method_1_code
def yX8_init : MethodName := ⟨RX8, "<init>", "(I)V"⟩
def dkwX8_init_0 : List UInt8 := [42, 27, 183, 0, 1, 177]
abbrev dktX8_init_0 : List UInt8 := dkwX8_init_0 ++ []
theorem dksX8_init_0 : cX8_init.data.toList.drop 0 = dktX8_init_0 := by decide +kernel
theorem dX8_init_0 : decode cX8_init 0 = .ok (.aload_n 0, 1) := dk_42 (dk_at dksX8_init_0 0 rfl rfl)
theorem dX8_init_1 : decode cX8_init 1 = .ok (.iload_n 1, 1) := dk_27 (dk_at dksX8_init_0 1 rfl rfl)
theorem dX8_init_2 : decode cX8_init 2 = .ok (.invokespecial 1, 3) := dk_183 0 1 (dk_at dksX8_init_0 2 rfl rfl)
theorem dX8_init_5 : decode cX8_init 5 = .ok (.return_, 1) := dk_177 (dk_at dksX8_init_0 5 rfl rfl)
abbrev cX8_act : ByteArray := prog_17_method_2_code
def yX8_act : MethodName := ⟨RX8, "act", "(LKioskReel;LKioskReel$Player;LKioskReel$Kiosk;)Z"⟩
def dkwX8_act_1 : List UInt8 := [180, 0, 29, 154, 0, 7, 4, 167, 0, 4, 3, 172]
abbrev dktX8_act_1 : List UInt8 := dkwX8_act_1 ++ []
def dkwX8_act_0 : List UInt8 := [43, 44, 43, 180, 0, 7, 42, 180, 0, 13, 185, 0, 17, 2, 0, 192, 0, 23, 182, 0, 25, 44]
abbrev dktX8_act_0 : List UInt8 := dkwX8_act_0 ++ dktX8_act_1
theorem dksX8_act_0 : cX8_act.data.toList.drop 0 = dktX8_act_0 := by decide +kernel
theorem dksX8_act_1 : cX8_act.data.toList.drop 22 = dktX8_act_1 := dk_seg dksX8_act_0 22 rfl rfl
theorem dX8_act_0 : decode cX8_act 0 = .ok (.aload_n 1, 1) := dk_43 (dk_at dksX8_act_0 0 rfl rfl)
theorem dX8_act_1 : decode cX8_act 1 = .ok (.aload_n 2, 1) := dk_44 (dk_at dksX8_act_0 1 rfl rfl)
theorem dX8_act_2 : decode cX8_act 2 = .ok (.aload_n 1, 1) := dk_43 (dk_at dksX8_act_0 2 rfl rfl)
theorem dX8_act_3 : decode cX8_act 3 = .ok (.getfield 7, 3) := dk_180 0 7 (dk_at dksX8_act_0 3 rfl rfl)
theorem dX8_act_6 : decode cX8_act 6 = .ok (.aload_n 0, 1) := dk_42 (dk_at dksX8_act_0 6 rfl rfl)
theorem dX8_act_7 : decode cX8_act 7 = .ok (.getfield 13, 3) := dk_180 0 13 (dk_at dksX8_act_0 7 rfl rfl)
theorem dX8_act_10 : decode cX8_act 10 = .ok (.invokeinterface 17 2, 5) := by decide +kernel
theorem dX8_act_15 : decode cX8_act 15 = .ok (.checkcast 23, 3) := dk_192 0 23 (dk_at dksX8_act_0 15 rfl rfl)
theorem dX8_act_18 : decode cX8_act 18 = .ok (.invokevirtual 25, 3) := dk_182 0 25 (dk_at dksX8_act_0 18 rfl rfl)
theorem dX8_act_21 : decode cX8_act 21 = .ok (.aload_n 2, 1) := dk_44 (dk_at dksX8_act_0 21 rfl rfl)
theorem dX8_act_22 : decode cX8_act 22 = .ok (.getfield 29, 3) := dk_180 0 29 (dk_at dksX8_act_1 0 rfl rfl)
theorem dX8_act_25 : decode cX8_act 25 = .ok (.ifCond .ne 7, 3) := dk_154 0 7 (dk_at dksX8_act_1 3 rfl rfl)
theorem dX8_act_28 : decode cX8_act 28 = .ok (.iconst 1, 1) := dk_4 (dk_at dksX8_act_1 6 rfl rfl)
theorem dX8_act_29 : decode cX8_act 29 = .ok (.goto 4, 3) := dk_167 0 4 (dk_at dksX8_act_1 7 rfl rfl)
theorem dX8_act_32 : decode cX8_act 32 = .ok (.iconst 0, 1) := dk_3 (dk_at dksX8_act_1 10 rfl rfl)
theorem dX8_act_33 : decode cX8_act 33 = .ok (.ireturn, 1) := dk_172 (dk_at dksX8_act_1 11 rfl rfl)
theorem q66 : (Jvm.Cond.initialized "KioskReel$Take") ∈ lw_all := lw_g (lw_at lw_m1 24 rfl) rfl
theorem q196 : (Jvm.Cond.selects "KioskReel$Take" ({ cls := "java/lang/Object", name := "getClass", desc := "()Ljava/lang/Class;" } : Jvm.MethodName) ({ cls := "java/lang/Object", name := "getClass", desc := "()Ljava/lang/Class;" } : Jvm.MethodName)) ∈ lw_all := lw_g (lw_at lw_m1 154 rfl) rfl
theorem q229 : (Jvm.Cond.fieldLinkNest "KioskReel$Take" (7 : Nat) "KioskReel" "devices" "Ljava/util/List;" "KioskReel") ∈ lw_tbl := lw_at lw_m1 187 rfl
theorem q446 : (Jvm.Cond.selects "KioskReel$Take" ({ cls := "java/lang/Object", name := "equals", desc := "(Ljava/lang/Object;)Z" } : Jvm.MethodName) ({ cls := "java/lang/Object", name := "equals", desc := "(Ljava/lang/Object;)Z" } : Jvm.MethodName)) ∈ lw_all := lw_g (lw_at lw_m2 164 rfl) rfl
theorem q627 : (Jvm.Cond.fieldLinkNest "KioskReel$Take" (13 : Nat) "KioskReel$Line" "number" "I" "KioskReel") ∈ lw_tbl := lw_at lw_m3 105 rfl
theorem q642 : (Jvm.Cond.instantiable "KioskReel$Take" (1 : Nat)) ∈ lw_all := lw_g (lw_at lw_m3 120 rfl) rfl
theorem q644 : (Jvm.Cond.instanceMethod ({ cls := "KioskReel$Take", name := "<init>", desc := "(I)V" } : Jvm.MethodName)) ∈ lw_all := lw_g (lw_at lw_m3 122 rfl) rfl
theorem q645 : (Jvm.Cond.code ({ cls := "KioskReel$Take", name := "<init>", desc := "(I)V" } : Jvm.MethodName) prog_17_method_1_code (2 : Nat) (Option.none : Option Jvm.ClassFile.FieldType)) ∈ lw_all := lw_g (lw_at lw_m3 123 rfl) rfl
theorem q646 : (Jvm.Cond.methodLink "KioskReel$Take" (1 : Nat) ({ cls := "KioskReel$Line", name := "<init>", desc := "(I)V" } : Jvm.MethodName)) ∈ lw_all := lw_g (lw_at lw_m3 124 rfl) rfl
theorem q647 : (Jvm.Cond.laysFinal "KioskReel$Take" "KioskReel$Line" "number" "I") ∈ lw_all := lw_g (lw_at lw_m3 125 rfl) rfl
theorem q648 : (Jvm.Cond.superclass "KioskReel$Take" "KioskReel$Line") ∈ lw_all := lw_g (lw_at lw_m3 126 rfl) rfl
theorem q1149 : (Jvm.Cond.fieldLinkNest "KioskReel$Take" (29 : Nat) "KioskReel$Player" "isQueued" "Z" "KioskReel") ∈ lw_tbl := lw_at lw_m5 147 rfl
theorem q1389 : (Jvm.Cond.selects "KioskReel$Take" ({ cls := "KioskReel$Line", name := "act", desc := "(LKioskReel;LKioskReel$Player;LKioskReel$Kiosk;)Z" } : Jvm.MethodName) ({ cls := "KioskReel$Take", name := "act", desc := "(LKioskReel;LKioskReel$Player;LKioskReel$Kiosk;)Z" } : Jvm.MethodName)) ∈ lw_all := lw_g (lw_at lw_m6 147 rfl) rfl
theorem q1390 : (Jvm.Cond.instanceMethod ({ cls := "KioskReel$Take", name := "act", desc := "(LKioskReel;LKioskReel$Player;LKioskReel$Kiosk;)Z" } : Jvm.MethodName)) ∈ lw_all := lw_g (lw_at lw_m6 148 rfl) rfl
theorem q1391 : (Jvm.Cond.code ({ cls := "KioskReel$Take", name := "act", desc := "(LKioskReel;LKioskReel$Player;LKioskReel$Kiosk;)Z" } : Jvm.MethodName) prog_17_method_2_code (4 : Nat) (Option.some Jvm.ClassFile.FieldType.boolean)) ∈ lw_all := lw_g (lw_at lw_m6 149 rfl) rfl
theorem q1392 : (Jvm.Cond.interfaceEntry "KioskReel$Take" (17 : Nat)) ∈ lw_tbl := lw_at lw_m6 150 rfl
theorem q1393 : (Jvm.Cond.methodLink "KioskReel$Take" (17 : Nat) ({ cls := "java/util/List", name := "get", desc := "(I)Ljava/lang/Object;" } : Jvm.MethodName)) ∈ lw_all := lw_g (lw_at lw_m6 151 rfl) rfl
theorem q1394 : (Jvm.Cond.classLink "KioskReel$Take" (23 : Nat) "KioskReel$Device") ∈ lw_all := lw_g (lw_at lw_m6 152 rfl) rfl
theorem q1395 : (Jvm.Cond.methodLinkNest "KioskReel$Take" (25 : Nat) ({ cls := "KioskReel", name := "take", desc := "(LKioskReel$Player;LKioskReel$Device;)V" } : Jvm.MethodName) "KioskReel") ∈ lw_tbl := lw_at lw_m6 153 rfl
theorem q1885 : (Jvm.Cond.castable "KioskReel$Take" "KioskReel$Line") ∈ lw_tbl := lw_at lw_m8 163 rfl
theorem q1889 : (Jvm.Cond.castable "KioskReel$Take" "java/lang/Object") ∈ lw_tbl := lw_at lw_m8 167 rfl
theorem in_X8 : ∀ w ∈ wsX80, w ∈ lw_all := lw_in wsX80 [647] (by decide +kernel) (by decide +kernel)

/-! KioskReel$Free -/
set_option maxRecDepth 100000
def RX9 : String := "KioskReel$Free"
def TX9 : u_T := fun k => match k with
  | _ => ("KioskReel$Line", "number", "I", true)
def tyX9 : Nat → FieldType := fun k => match k with
  | _ => .int
abbrev wsX90 : List Cond := u_ws RX9 TX9 1
theorem nmX9 : ∀ a, a < 1 → ∀ b, b < 1 → a ≠ b → (TX9 a).2.1 ≠ (TX9 b).2.1 := by decide +kernel
theorem tyX9_ok : ∀ k, k < 1 → parseFieldDescriptor (TX9 k).2.2.1 = some (tyX9 k) := by decide +kernel
abbrev cX9_init : ByteArray := prog_5_method_1_code
def yX9_init : MethodName := ⟨RX9, "<init>", "(I)V"⟩
def dkwX9_init_0 : List UInt8 := [42, 27, 183, 0, 1, 177]
abbrev dktX9_init_0 : List UInt8 := dkwX9_init_0 ++ []
theorem dksX9_init_0 : cX9_init.data.toList.drop 0 = dktX9_init_0 := by decide +kernel
theorem dX9_init_0 : decode cX9_init 0 = .ok (.aload_n 0, 1) := dk_42 (dk_at dksX9_init_0 0 rfl rfl)
theorem dX9_init_1 : decode cX9_init 1 = .ok (.iload_n 1, 1) := dk_27 (dk_at dksX9_init_0 1 rfl rfl)
theorem dX9_init_2 : decode cX9_init 2 = .ok (.invokespecial 1, 3) := dk_183 0 1 (dk_at dksX9_init_0 2 rfl rfl)
theorem dX9_init_5 : decode cX9_init 5 = .ok (.return_, 1) := dk_177 (dk_at dksX9_init_0 5 rfl rfl)
abbrev cX9_act : ByteArray := prog_5_method_2_code
def yX9_act : MethodName := ⟨RX9, "act", "(LKioskReel;LKioskReel$Player;LKioskReel$Kiosk;)Z"⟩
def dkwX9_act_1 : List UInt8 := [166, 0, 8, 25, 4, 182, 0, 29, 4, 172]
abbrev dktX9_act_1 : List UInt8 := dkwX9_act_1 ++ []
def dkwX9_act_0 : List UInt8 := [43, 180, 0, 7, 42, 180, 0, 13, 185, 0, 17, 2, 0, 192, 0, 23, 58, 4, 25, 4, 180, 0, 25, 44]
abbrev dktX9_act_0 : List UInt8 := dkwX9_act_0 ++ dktX9_act_1
theorem dksX9_act_0 : cX9_act.data.toList.drop 0 = dktX9_act_0 := by decide +kernel
theorem dksX9_act_1 : cX9_act.data.toList.drop 24 = dktX9_act_1 := dk_seg dksX9_act_0 24 rfl rfl
theorem dX9_act_0 : decode cX9_act 0 = .ok (.aload_n 1, 1) := dk_43 (dk_at dksX9_act_0 0 rfl rfl)
theorem dX9_act_1 : decode cX9_act 1 = .ok (.getfield 7, 3) := dk_180 0 7 (dk_at dksX9_act_0 1 rfl rfl)
theorem dX9_act_4 : decode cX9_act 4 = .ok (.aload_n 0, 1) := dk_42 (dk_at dksX9_act_0 4 rfl rfl)
theorem dX9_act_5 : decode cX9_act 5 = .ok (.getfield 13, 3) := dk_180 0 13 (dk_at dksX9_act_0 5 rfl rfl)
theorem dX9_act_8 : decode cX9_act 8 = .ok (.invokeinterface 17 2, 5) := by decide +kernel
theorem dX9_act_13 : decode cX9_act 13 = .ok (.checkcast 23, 3) := dk_192 0 23 (dk_at dksX9_act_0 13 rfl rfl)
theorem dX9_act_16 : decode cX9_act 16 = .ok (.astore 4, 2) := dk_58 4 (dk_at dksX9_act_0 16 rfl rfl)
theorem dX9_act_18 : decode cX9_act 18 = .ok (.aload 4, 2) := dk_25 4 (dk_at dksX9_act_0 18 rfl rfl)
theorem dX9_act_20 : decode cX9_act 20 = .ok (.getfield 25, 3) := dk_180 0 25 (dk_at dksX9_act_0 20 rfl rfl)
theorem dX9_act_23 : decode cX9_act 23 = .ok (.aload_n 2, 1) := dk_44 (dk_at dksX9_act_0 23 rfl rfl)
theorem dX9_act_24 : decode cX9_act 24 = .ok (.if_acmp .ne 8, 3) := dk_166 0 8 (dk_at dksX9_act_1 0 rfl rfl)
theorem dX9_act_27 : decode cX9_act 27 = .ok (.aload 4, 2) := dk_25 4 (dk_at dksX9_act_1 3 rfl rfl)
theorem dX9_act_29 : decode cX9_act 29 = .ok (.invokevirtual 29, 3) := dk_182 0 29 (dk_at dksX9_act_1 5 rfl rfl)
theorem dX9_act_32 : decode cX9_act 32 = .ok (.iconst 1, 1) := dk_4 (dk_at dksX9_act_1 8 rfl rfl)
theorem dX9_act_33 : decode cX9_act 33 = .ok (.ireturn, 1) := dk_172 (dk_at dksX9_act_1 9 rfl rfl)
theorem q67 : (Jvm.Cond.initialized "KioskReel$Free") ∈ lw_all := lw_g (lw_at lw_m1 25 rfl) rfl
theorem q136 : (Jvm.Cond.fieldLinkNest "KioskReel$Free" (25 : Nat) "KioskReel$Device" "holder" "LKioskReel$Player;" "KioskReel") ∈ lw_tbl := lw_at lw_m1 94 rfl
theorem q185 : (Jvm.Cond.selects "KioskReel$Free" ({ cls := "java/lang/Object", name := "getClass", desc := "()Ljava/lang/Class;" } : Jvm.MethodName) ({ cls := "java/lang/Object", name := "getClass", desc := "()Ljava/lang/Class;" } : Jvm.MethodName)) ∈ lw_all := lw_g (lw_at lw_m1 143 rfl) rfl
theorem q228 : (Jvm.Cond.fieldLinkNest "KioskReel$Free" (7 : Nat) "KioskReel" "devices" "Ljava/util/List;" "KioskReel") ∈ lw_tbl := lw_at lw_m1 186 rfl
theorem q435 : (Jvm.Cond.selects "KioskReel$Free" ({ cls := "java/lang/Object", name := "equals", desc := "(Ljava/lang/Object;)Z" } : Jvm.MethodName) ({ cls := "java/lang/Object", name := "equals", desc := "(Ljava/lang/Object;)Z" } : Jvm.MethodName)) ∈ lw_all := lw_g (lw_at lw_m2 153 rfl) rfl
theorem q625 : (Jvm.Cond.fieldLinkNest "KioskReel$Free" (13 : Nat) "KioskReel$Line" "number" "I" "KioskReel") ∈ lw_tbl := lw_at lw_m3 103 rfl
theorem q650 : (Jvm.Cond.instantiable "KioskReel$Free" (1 : Nat)) ∈ lw_all := lw_g (lw_at lw_m3 128 rfl) rfl
theorem q652 : (Jvm.Cond.instanceMethod ({ cls := "KioskReel$Free", name := "<init>", desc := "(I)V" } : Jvm.MethodName)) ∈ lw_all := lw_g (lw_at lw_m3 130 rfl) rfl
theorem q653 : (Jvm.Cond.code ({ cls := "KioskReel$Free", name := "<init>", desc := "(I)V" } : Jvm.MethodName) prog_5_method_1_code (2 : Nat) (Option.none : Option Jvm.ClassFile.FieldType)) ∈ lw_all := lw_g (lw_at lw_m3 131 rfl) rfl
theorem q654 : (Jvm.Cond.methodLink "KioskReel$Free" (1 : Nat) ({ cls := "KioskReel$Line", name := "<init>", desc := "(I)V" } : Jvm.MethodName)) ∈ lw_all := lw_g (lw_at lw_m3 132 rfl) rfl
theorem q655 : (Jvm.Cond.laysFinal "KioskReel$Free" "KioskReel$Line" "number" "I") ∈ lw_all := lw_g (lw_at lw_m3 133 rfl) rfl
theorem q656 : (Jvm.Cond.superclass "KioskReel$Free" "KioskReel$Line") ∈ lw_all := lw_g (lw_at lw_m3 134 rfl) rfl
theorem q1322 : (Jvm.Cond.selects "KioskReel$Free" ({ cls := "KioskReel$Line", name := "act", desc := "(LKioskReel;LKioskReel$Player;LKioskReel$Kiosk;)Z" } : Jvm.MethodName) ({ cls := "KioskReel$Free", name := "act", desc := "(LKioskReel;LKioskReel$Player;LKioskReel$Kiosk;)Z" } : Jvm.MethodName)) ∈ lw_all := lw_g (lw_at lw_m6 80 rfl) rfl
theorem q1323 : (Jvm.Cond.instanceMethod ({ cls := "KioskReel$Free", name := "act", desc := "(LKioskReel;LKioskReel$Player;LKioskReel$Kiosk;)Z" } : Jvm.MethodName)) ∈ lw_all := lw_g (lw_at lw_m6 81 rfl) rfl
theorem q1324 : (Jvm.Cond.code ({ cls := "KioskReel$Free", name := "act", desc := "(LKioskReel;LKioskReel$Player;LKioskReel$Kiosk;)Z" } : Jvm.MethodName) prog_5_method_2_code (5 : Nat) (Option.some Jvm.ClassFile.FieldType.boolean)) ∈ lw_all := lw_g (lw_at lw_m6 82 rfl) rfl
theorem q1325 : (Jvm.Cond.interfaceEntry "KioskReel$Free" (17 : Nat)) ∈ lw_tbl := lw_at lw_m6 83 rfl
theorem q1326 : (Jvm.Cond.methodLink "KioskReel$Free" (17 : Nat) ({ cls := "java/util/List", name := "get", desc := "(I)Ljava/lang/Object;" } : Jvm.MethodName)) ∈ lw_all := lw_g (lw_at lw_m6 84 rfl) rfl
theorem q1327 : (Jvm.Cond.classLink "KioskReel$Free" (23 : Nat) "KioskReel$Device") ∈ lw_all := lw_g (lw_at lw_m6 85 rfl) rfl
theorem q1328 : (Jvm.Cond.methodLink "KioskReel$Free" (29 : Nat) ({ cls := "KioskReel$Device", name := "free", desc := "()V" } : Jvm.MethodName)) ∈ lw_all := lw_g (lw_at lw_m6 86 rfl) rfl
theorem q1877 : (Jvm.Cond.castable "KioskReel$Free" "KioskReel$Line") ∈ lw_tbl := lw_at lw_m8 155 rfl
theorem q1890 : (Jvm.Cond.castable "KioskReel$Free" "java/lang/Object") ∈ lw_tbl := lw_at lw_m8 168 rfl
theorem in_X9 : ∀ w ∈ wsX90, w ∈ lw_all := lw_in wsX90 [655] (by decide +kernel) (by decide +kernel)

/-! KioskReel$GoTo -/
set_option maxRecDepth 100000
def RX10 : String := "KioskReel$GoTo"
def TX10 : u_T := fun k => match k with
  | _ => ("KioskReel$Line", "number", "I", true)
def tyX10 : Nat → FieldType := fun k => match k with
  | _ => .int
abbrev wsX100 : List Cond := u_ws RX10 TX10 1
theorem nmX10 : ∀ a, a < 1 → ∀ b, b < 1 → a ≠ b → (TX10 a).2.1 ≠ (TX10 b).2.1 := by decide +kernel
theorem tyX10_ok : ∀ k, k < 1 → parseFieldDescriptor (TX10 k).2.2.1 = some (tyX10 k) := by decide +kernel
abbrev cX10_init : ByteArray := prog_6_method_1_code
def yX10_init : MethodName := ⟨RX10, "<init>", "(I)V"⟩
def dkwX10_init_0 : List UInt8 := [42, 27, 183, 0, 1, 177]
abbrev dktX10_init_0 : List UInt8 := dkwX10_init_0 ++ []
theorem dksX10_init_0 : cX10_init.data.toList.drop 0 = dktX10_init_0 := by decide +kernel
theorem dX10_init_0 : decode cX10_init 0 = .ok (.aload_n 0, 1) := dk_42 (dk_at dksX10_init_0 0 rfl rfl)
theorem dX10_init_1 : decode cX10_init 1 = .ok (.iload_n 1, 1) := dk_27 (dk_at dksX10_init_0 1 rfl rfl)
theorem dX10_init_2 : decode cX10_init 2 = .ok (.invokespecial 1, 3) := dk_183 0 1 (dk_at dksX10_init_0 2 rfl rfl)
theorem dX10_init_5 : decode cX10_init 5 = .ok (.return_, 1) := dk_177 (dk_at dksX10_init_0 5 rfl rfl)
abbrev cX10_act : ByteArray := prog_6_method_2_code
def yX10_act : MethodName := ⟨RX10, "act", "(LKioskReel;LKioskReel$Player;LKioskReel$Kiosk;)Z"⟩
def dkwX10_act_0 : List UInt8 := [44, 182, 0, 7, 42, 180, 0, 13, 181, 0, 17, 4, 172]
abbrev dktX10_act_0 : List UInt8 := dkwX10_act_0 ++ []
theorem dksX10_act_0 : cX10_act.data.toList.drop 0 = dktX10_act_0 := by decide +kernel
theorem dX10_act_0 : decode cX10_act 0 = .ok (.aload_n 2, 1) := dk_44 (dk_at dksX10_act_0 0 rfl rfl)
theorem dX10_act_1 : decode cX10_act 1 = .ok (.invokevirtual 7, 3) := dk_182 0 7 (dk_at dksX10_act_0 1 rfl rfl)
theorem dX10_act_4 : decode cX10_act 4 = .ok (.aload_n 0, 1) := dk_42 (dk_at dksX10_act_0 4 rfl rfl)
theorem dX10_act_5 : decode cX10_act 5 = .ok (.getfield 13, 3) := dk_180 0 13 (dk_at dksX10_act_0 5 rfl rfl)
theorem dX10_act_8 : decode cX10_act 8 = .ok (.putfield 17, 3) := dk_181 0 17 (dk_at dksX10_act_0 8 rfl rfl)
theorem dX10_act_11 : decode cX10_act 11 = .ok (.iconst 1, 1) := dk_4 (dk_at dksX10_act_0 11 rfl rfl)
theorem dX10_act_12 : decode cX10_act 12 = .ok (.ireturn, 1) := dk_172 (dk_at dksX10_act_0 12 rfl rfl)
theorem q68 : (Jvm.Cond.initialized "KioskReel$GoTo") ∈ lw_all := lw_g (lw_at lw_m1 26 rfl) rfl
theorem q186 : (Jvm.Cond.selects "KioskReel$GoTo" ({ cls := "java/lang/Object", name := "getClass", desc := "()Ljava/lang/Class;" } : Jvm.MethodName) ({ cls := "java/lang/Object", name := "getClass", desc := "()Ljava/lang/Class;" } : Jvm.MethodName)) ∈ lw_all := lw_g (lw_at lw_m1 144 rfl) rfl
theorem q436 : (Jvm.Cond.selects "KioskReel$GoTo" ({ cls := "java/lang/Object", name := "equals", desc := "(Ljava/lang/Object;)Z" } : Jvm.MethodName) ({ cls := "java/lang/Object", name := "equals", desc := "(Ljava/lang/Object;)Z" } : Jvm.MethodName)) ∈ lw_all := lw_g (lw_at lw_m2 154 rfl) rfl
theorem q626 : (Jvm.Cond.fieldLinkNest "KioskReel$GoTo" (13 : Nat) "KioskReel$Line" "number" "I" "KioskReel") ∈ lw_tbl := lw_at lw_m3 104 rfl
theorem q658 : (Jvm.Cond.instantiable "KioskReel$GoTo" (1 : Nat)) ∈ lw_all := lw_g (lw_at lw_m3 136 rfl) rfl
theorem q660 : (Jvm.Cond.instanceMethod ({ cls := "KioskReel$GoTo", name := "<init>", desc := "(I)V" } : Jvm.MethodName)) ∈ lw_all := lw_g (lw_at lw_m3 138 rfl) rfl
theorem q661 : (Jvm.Cond.code ({ cls := "KioskReel$GoTo", name := "<init>", desc := "(I)V" } : Jvm.MethodName) prog_6_method_1_code (2 : Nat) (Option.none : Option Jvm.ClassFile.FieldType)) ∈ lw_all := lw_g (lw_at lw_m3 139 rfl) rfl
theorem q662 : (Jvm.Cond.methodLink "KioskReel$GoTo" (1 : Nat) ({ cls := "KioskReel$Line", name := "<init>", desc := "(I)V" } : Jvm.MethodName)) ∈ lw_all := lw_g (lw_at lw_m3 140 rfl) rfl
theorem q663 : (Jvm.Cond.laysFinal "KioskReel$GoTo" "KioskReel$Line" "number" "I") ∈ lw_all := lw_g (lw_at lw_m3 141 rfl) rfl
theorem q664 : (Jvm.Cond.superclass "KioskReel$GoTo" "KioskReel$Line") ∈ lw_all := lw_g (lw_at lw_m3 142 rfl) rfl
theorem q1124 : (Jvm.Cond.fieldLinkNest "KioskReel$GoTo" (17 : Nat) "KioskReel$Frame" "next" "I" "KioskReel") ∈ lw_tbl := lw_at lw_m5 122 rfl
theorem q1329 : (Jvm.Cond.selects "KioskReel$GoTo" ({ cls := "KioskReel$Line", name := "act", desc := "(LKioskReel;LKioskReel$Player;LKioskReel$Kiosk;)Z" } : Jvm.MethodName) ({ cls := "KioskReel$GoTo", name := "act", desc := "(LKioskReel;LKioskReel$Player;LKioskReel$Kiosk;)Z" } : Jvm.MethodName)) ∈ lw_all := lw_g (lw_at lw_m6 87 rfl) rfl
theorem q1330 : (Jvm.Cond.instanceMethod ({ cls := "KioskReel$GoTo", name := "act", desc := "(LKioskReel;LKioskReel$Player;LKioskReel$Kiosk;)Z" } : Jvm.MethodName)) ∈ lw_all := lw_g (lw_at lw_m6 88 rfl) rfl
theorem q1331 : (Jvm.Cond.code ({ cls := "KioskReel$GoTo", name := "act", desc := "(LKioskReel;LKioskReel$Player;LKioskReel$Kiosk;)Z" } : Jvm.MethodName) prog_6_method_2_code (4 : Nat) (Option.some Jvm.ClassFile.FieldType.boolean)) ∈ lw_all := lw_g (lw_at lw_m6 89 rfl) rfl
theorem q1332 : (Jvm.Cond.methodLink "KioskReel$GoTo" (7 : Nat) ({ cls := "KioskReel$Player", name := "top", desc := "()LKioskReel$Frame;" } : Jvm.MethodName)) ∈ lw_all := lw_g (lw_at lw_m6 90 rfl) rfl
theorem q1878 : (Jvm.Cond.castable "KioskReel$GoTo" "KioskReel$Line") ∈ lw_tbl := lw_at lw_m8 156 rfl
theorem q1891 : (Jvm.Cond.castable "KioskReel$GoTo" "java/lang/Object") ∈ lw_tbl := lw_at lw_m8 169 rfl
theorem in_X10 : ∀ w ∈ wsX100, w ∈ lw_all := lw_in wsX100 [663] (by decide +kernel) (by decide +kernel)

/-! KioskReel$IfAlone -/
set_option maxRecDepth 100000
def RX11 : String := "KioskReel$IfAlone"
def TX11 : u_T := fun k => match k with
  | _ => ("KioskReel$Line", "number", "I", true)
def tyX11 : Nat → FieldType := fun k => match k with
  | _ => .int
abbrev wsX110 : List Cond := u_ws RX11 TX11 1
theorem nmX11 : ∀ a, a < 1 → ∀ b, b < 1 → a ≠ b → (TX11 a).2.1 ≠ (TX11 b).2.1 := by decide +kernel
theorem tyX11_ok : ∀ k, k < 1 → parseFieldDescriptor (TX11 k).2.2.1 = some (tyX11 k) := by decide +kernel
abbrev cX11_init : ByteArray := prog_7_method_1_code
def yX11_init : MethodName := ⟨RX11, "<init>", "(I)V"⟩
def dkwX11_init_0 : List UInt8 := [42, 27, 183, 0, 1, 177]
abbrev dktX11_init_0 : List UInt8 := dkwX11_init_0 ++ []
theorem dksX11_init_0 : cX11_init.data.toList.drop 0 = dktX11_init_0 := by decide +kernel
theorem dX11_init_0 : decode cX11_init 0 = .ok (.aload_n 0, 1) := dk_42 (dk_at dksX11_init_0 0 rfl rfl)
theorem dX11_init_1 : decode cX11_init 1 = .ok (.iload_n 1, 1) := dk_27 (dk_at dksX11_init_0 1 rfl rfl)
theorem dX11_init_2 : decode cX11_init 2 = .ok (.invokespecial 1, 3) := dk_183 0 1 (dk_at dksX11_init_0 2 rfl rfl)
theorem dX11_init_5 : decode cX11_init 5 = .ok (.return_, 1) := dk_177 (dk_at dksX11_init_0 5 rfl rfl)
abbrev cX11_act : ByteArray := prog_7_method_2_code
def yX11_act : MethodName := ⟨RX11, "act", "(LKioskReel;LKioskReel$Player;LKioskReel$Kiosk;)Z"⟩
def dkwX11_act_1 : List UInt8 := [4, 172]
abbrev dktX11_act_1 : List UInt8 := dkwX11_act_1 ++ []
def dkwX11_act_0 : List UInt8 := [43, 45, 186, 0, 7, 0, 0, 182, 0, 11, 154, 0, 14, 44, 182, 0, 17, 42, 180, 0, 23, 181, 0, 27]
abbrev dktX11_act_0 : List UInt8 := dkwX11_act_0 ++ dktX11_act_1
theorem dksX11_act_0 : cX11_act.data.toList.drop 0 = dktX11_act_0 := by decide +kernel
theorem dksX11_act_1 : cX11_act.data.toList.drop 24 = dktX11_act_1 := dk_seg dksX11_act_0 24 rfl rfl
theorem dX11_act_0 : decode cX11_act 0 = .ok (.aload_n 1, 1) := dk_43 (dk_at dksX11_act_0 0 rfl rfl)
theorem dX11_act_1 : decode cX11_act 1 = .ok (.aload_n 3, 1) := dk_45 (dk_at dksX11_act_0 1 rfl rfl)
theorem dX11_act_2 : decode cX11_act 2 = .ok (.invokedynamic 7, 5) := by decide +kernel
theorem dX11_act_7 : decode cX11_act 7 = .ok (.invokevirtual 11, 3) := dk_182 0 11 (dk_at dksX11_act_0 7 rfl rfl)
theorem dX11_act_10 : decode cX11_act 10 = .ok (.ifCond .ne 14, 3) := dk_154 0 14 (dk_at dksX11_act_0 10 rfl rfl)
theorem dX11_act_13 : decode cX11_act 13 = .ok (.aload_n 2, 1) := dk_44 (dk_at dksX11_act_0 13 rfl rfl)
theorem dX11_act_14 : decode cX11_act 14 = .ok (.invokevirtual 17, 3) := dk_182 0 17 (dk_at dksX11_act_0 14 rfl rfl)
theorem dX11_act_17 : decode cX11_act 17 = .ok (.aload_n 0, 1) := dk_42 (dk_at dksX11_act_0 17 rfl rfl)
theorem dX11_act_18 : decode cX11_act 18 = .ok (.getfield 23, 3) := dk_180 0 23 (dk_at dksX11_act_0 18 rfl rfl)
theorem dX11_act_21 : decode cX11_act 21 = .ok (.putfield 27, 3) := dk_181 0 27 (dk_at dksX11_act_0 21 rfl rfl)
theorem dX11_act_24 : decode cX11_act 24 = .ok (.iconst 1, 1) := dk_4 (dk_at dksX11_act_1 0 rfl rfl)
theorem dX11_act_25 : decode cX11_act 25 = .ok (.ireturn, 1) := dk_172 (dk_at dksX11_act_1 1 rfl rfl)
abbrev cX11_lambda_act_0 : ByteArray := prog_7_method_3_code
def yX11_lambda_act_0 : MethodName := ⟨RX11, "lambda$act$0", "(LKioskReel$Kiosk;LKioskReel$Visitor;)Z"⟩
def dkwX11_lambda_act_0_0 : List UInt8 := [43, 180, 0, 32, 42, 166, 0, 7, 4, 167, 0, 4, 3, 172]
abbrev dktX11_lambda_act_0_0 : List UInt8 := dkwX11_lambda_act_0_0 ++ []
theorem dksX11_lambda_act_0_0 : cX11_lambda_act_0.data.toList.drop 0 = dktX11_lambda_act_0_0 := by decide +kernel
theorem dX11_lambda_act_0_0 : decode cX11_lambda_act_0 0 = .ok (.aload_n 1, 1) := dk_43 (dk_at dksX11_lambda_act_0_0 0 rfl rfl)
theorem dX11_lambda_act_0_1 : decode cX11_lambda_act_0 1 = .ok (.getfield 32, 3) := dk_180 0 32 (dk_at dksX11_lambda_act_0_0 1 rfl rfl)
theorem dX11_lambda_act_0_4 : decode cX11_lambda_act_0 4 = .ok (.aload_n 0, 1) := dk_42 (dk_at dksX11_lambda_act_0_0 4 rfl rfl)
theorem dX11_lambda_act_0_5 : decode cX11_lambda_act_0 5 = .ok (.if_acmp .ne 7, 3) := dk_166 0 7 (dk_at dksX11_lambda_act_0_0 5 rfl rfl)
theorem dX11_lambda_act_0_8 : decode cX11_lambda_act_0 8 = .ok (.iconst 1, 1) := dk_4 (dk_at dksX11_lambda_act_0_0 8 rfl rfl)
theorem dX11_lambda_act_0_9 : decode cX11_lambda_act_0 9 = .ok (.goto 4, 3) := dk_167 0 4 (dk_at dksX11_lambda_act_0_0 9 rfl rfl)
theorem dX11_lambda_act_0_12 : decode cX11_lambda_act_0 12 = .ok (.iconst 0, 1) := dk_3 (dk_at dksX11_lambda_act_0_0 12 rfl rfl)
theorem dX11_lambda_act_0_13 : decode cX11_lambda_act_0 13 = .ok (.ireturn, 1) := dk_172 (dk_at dksX11_lambda_act_0_0 13 rfl rfl)
theorem q69 : (Jvm.Cond.initialized "KioskReel$IfAlone") ∈ lw_all := lw_g (lw_at lw_m1 27 rfl) rfl
theorem q187 : (Jvm.Cond.selects "KioskReel$IfAlone" ({ cls := "java/lang/Object", name := "getClass", desc := "()Ljava/lang/Class;" } : Jvm.MethodName) ({ cls := "java/lang/Object", name := "getClass", desc := "()Ljava/lang/Class;" } : Jvm.MethodName)) ∈ lw_all := lw_g (lw_at lw_m1 145 rfl) rfl
theorem q437 : (Jvm.Cond.selects "KioskReel$IfAlone" ({ cls := "java/lang/Object", name := "equals", desc := "(Ljava/lang/Object;)Z" } : Jvm.MethodName) ({ cls := "java/lang/Object", name := "equals", desc := "(Ljava/lang/Object;)Z" } : Jvm.MethodName)) ∈ lw_all := lw_g (lw_at lw_m2 155 rfl) rfl
theorem q629 : (Jvm.Cond.fieldLinkNest "KioskReel$IfAlone" (23 : Nat) "KioskReel$Line" "number" "I" "KioskReel") ∈ lw_tbl := lw_at lw_m3 107 rfl
theorem q666 : (Jvm.Cond.instantiable "KioskReel$IfAlone" (1 : Nat)) ∈ lw_all := lw_g (lw_at lw_m3 144 rfl) rfl
theorem q668 : (Jvm.Cond.instanceMethod ({ cls := "KioskReel$IfAlone", name := "<init>", desc := "(I)V" } : Jvm.MethodName)) ∈ lw_all := lw_g (lw_at lw_m3 146 rfl) rfl
theorem q669 : (Jvm.Cond.code ({ cls := "KioskReel$IfAlone", name := "<init>", desc := "(I)V" } : Jvm.MethodName) prog_7_method_1_code (2 : Nat) (Option.none : Option Jvm.ClassFile.FieldType)) ∈ lw_all := lw_g (lw_at lw_m3 147 rfl) rfl
theorem q670 : (Jvm.Cond.methodLink "KioskReel$IfAlone" (1 : Nat) ({ cls := "KioskReel$Line", name := "<init>", desc := "(I)V" } : Jvm.MethodName)) ∈ lw_all := lw_g (lw_at lw_m3 148 rfl) rfl
theorem q671 : (Jvm.Cond.laysFinal "KioskReel$IfAlone" "KioskReel$Line" "number" "I") ∈ lw_all := lw_g (lw_at lw_m3 149 rfl) rfl
theorem q672 : (Jvm.Cond.superclass "KioskReel$IfAlone" "KioskReel$Line") ∈ lw_all := lw_g (lw_at lw_m3 150 rfl) rfl
theorem q1126 : (Jvm.Cond.fieldLinkNest "KioskReel$IfAlone" (27 : Nat) "KioskReel$Frame" "next" "I" "KioskReel") ∈ lw_tbl := lw_at lw_m5 124 rfl
theorem q1333 : (Jvm.Cond.selects "KioskReel$IfAlone" ({ cls := "KioskReel$Line", name := "act", desc := "(LKioskReel;LKioskReel$Player;LKioskReel$Kiosk;)Z" } : Jvm.MethodName) ({ cls := "KioskReel$IfAlone", name := "act", desc := "(LKioskReel;LKioskReel$Player;LKioskReel$Kiosk;)Z" } : Jvm.MethodName)) ∈ lw_all := lw_g (lw_at lw_m6 91 rfl) rfl
theorem q1334 : (Jvm.Cond.instanceMethod ({ cls := "KioskReel$IfAlone", name := "act", desc := "(LKioskReel;LKioskReel$Player;LKioskReel$Kiosk;)Z" } : Jvm.MethodName)) ∈ lw_all := lw_g (lw_at lw_m6 92 rfl) rfl
theorem q1335 : (Jvm.Cond.code ({ cls := "KioskReel$IfAlone", name := "act", desc := "(LKioskReel;LKioskReel$Player;LKioskReel$Kiosk;)Z" } : Jvm.MethodName) prog_7_method_2_code (4 : Nat) (Option.some Jvm.ClassFile.FieldType.boolean)) ∈ lw_all := lw_g (lw_at lw_m6 93 rfl) rfl
theorem q1336 : (Jvm.Cond.static ({ cls := "KioskReel$IfAlone", name := "lambda$act$0", desc := "(LKioskReel$Kiosk;LKioskReel$Visitor;)Z" } : Jvm.MethodName)) ∈ lw_all := lw_g (lw_at lw_m6 94 rfl) rfl
theorem q1337 : (Jvm.Cond.code ({ cls := "KioskReel$IfAlone", name := "lambda$act$0", desc := "(LKioskReel$Kiosk;LKioskReel$Visitor;)Z" } : Jvm.MethodName) prog_7_method_3_code (2 : Nat) (Option.some Jvm.ClassFile.FieldType.boolean)) ∈ lw_all := lw_g (lw_at lw_m6 95 rfl) rfl
theorem q1338 : (Jvm.Cond.methodLinkNest "KioskReel$IfAlone" (11 : Nat) ({ cls := "KioskReel", name := "countVisitors", desc := "(LKioskReel$VisitorTest;)I" } : Jvm.MethodName) "KioskReel") ∈ lw_tbl := lw_at lw_m6 96 rfl
theorem q1346 : (Jvm.Cond.methodLink "KioskReel$IfAlone" (17 : Nat) ({ cls := "KioskReel$Player", name := "top", desc := "()LKioskReel$Frame;" } : Jvm.MethodName)) ∈ lw_all := lw_g (lw_at lw_m6 104 rfl) rfl
theorem q1481 : (Jvm.Cond.fieldLinkNest "KioskReel$IfAlone" (32 : Nat) "KioskReel$Visitor" "at" "LKioskReel$Kiosk;" "KioskReel") ∈ lw_tbl := lw_at lw_m6 239 rfl
theorem q1879 : (Jvm.Cond.castable "KioskReel$IfAlone" "KioskReel$Line") ∈ lw_tbl := lw_at lw_m8 157 rfl
theorem q1892 : (Jvm.Cond.castable "KioskReel$IfAlone" "java/lang/Object") ∈ lw_tbl := lw_at lw_m8 170 rfl
theorem in_X11 : ∀ w ∈ wsX110, w ∈ lw_all := lw_in wsX110 [671] (by decide +kernel) (by decide +kernel)

/-! KioskReel$Loop -/
set_option maxRecDepth 100000
def RX12 : String := "KioskReel$Loop"
def TX12 : u_T := fun k => match k with
  | _ => ("KioskReel$Line", "number", "I", true)
def tyX12 : Nat → FieldType := fun k => match k with
  | _ => .int
abbrev wsX120 : List Cond := u_ws RX12 TX12 1
theorem nmX12 : ∀ a, a < 1 → ∀ b, b < 1 → a ≠ b → (TX12 a).2.1 ≠ (TX12 b).2.1 := by decide +kernel
theorem tyX12_ok : ∀ k, k < 1 → parseFieldDescriptor (TX12 k).2.2.1 = some (tyX12 k) := by decide +kernel
abbrev cX12_init : ByteArray := prog_10_method_1_code
def yX12_init : MethodName := ⟨RX12, "<init>", "(I)V"⟩
def dkwX12_init_0 : List UInt8 := [42, 27, 183, 0, 1, 177]
abbrev dktX12_init_0 : List UInt8 := dkwX12_init_0 ++ []
theorem dksX12_init_0 : cX12_init.data.toList.drop 0 = dktX12_init_0 := by decide +kernel
theorem dX12_init_0 : decode cX12_init 0 = .ok (.aload_n 0, 1) := dk_42 (dk_at dksX12_init_0 0 rfl rfl)
theorem dX12_init_1 : decode cX12_init 1 = .ok (.iload_n 1, 1) := dk_27 (dk_at dksX12_init_0 1 rfl rfl)
theorem dX12_init_2 : decode cX12_init 2 = .ok (.invokespecial 1, 3) := dk_183 0 1 (dk_at dksX12_init_0 2 rfl rfl)
theorem dX12_init_5 : decode cX12_init 5 = .ok (.return_, 1) := dk_177 (dk_at dksX12_init_0 5 rfl rfl)
abbrev cX12_act : ByteArray := prog_10_method_2_code
def yX12_act : MethodName := ⟨RX12, "act", "(LKioskReel;LKioskReel$Player;LKioskReel$Kiosk;)Z"⟩
def dkwX12_act_1 : List UInt8 := [180, 0, 7, 4, 100, 181, 0, 7, 4, 172]
abbrev dktX12_act_1 : List UInt8 := dkwX12_act_1 ++ []
def dkwX12_act_0 : List UInt8 := [44, 180, 0, 7, 154, 0, 17, 44, 182, 0, 13, 42, 180, 0, 17, 181, 0, 20, 167, 0, 13, 44, 89]
abbrev dktX12_act_0 : List UInt8 := dkwX12_act_0 ++ dktX12_act_1
theorem dksX12_act_0 : cX12_act.data.toList.drop 0 = dktX12_act_0 := by decide +kernel
theorem dksX12_act_1 : cX12_act.data.toList.drop 23 = dktX12_act_1 := dk_seg dksX12_act_0 23 rfl rfl
theorem dX12_act_0 : decode cX12_act 0 = .ok (.aload_n 2, 1) := dk_44 (dk_at dksX12_act_0 0 rfl rfl)
theorem dX12_act_1 : decode cX12_act 1 = .ok (.getfield 7, 3) := dk_180 0 7 (dk_at dksX12_act_0 1 rfl rfl)
theorem dX12_act_4 : decode cX12_act 4 = .ok (.ifCond .ne 17, 3) := dk_154 0 17 (dk_at dksX12_act_0 4 rfl rfl)
theorem dX12_act_7 : decode cX12_act 7 = .ok (.aload_n 2, 1) := dk_44 (dk_at dksX12_act_0 7 rfl rfl)
theorem dX12_act_8 : decode cX12_act 8 = .ok (.invokevirtual 13, 3) := dk_182 0 13 (dk_at dksX12_act_0 8 rfl rfl)
theorem dX12_act_11 : decode cX12_act 11 = .ok (.aload_n 0, 1) := dk_42 (dk_at dksX12_act_0 11 rfl rfl)
theorem dX12_act_12 : decode cX12_act 12 = .ok (.getfield 17, 3) := dk_180 0 17 (dk_at dksX12_act_0 12 rfl rfl)
theorem dX12_act_15 : decode cX12_act 15 = .ok (.putfield 20, 3) := dk_181 0 20 (dk_at dksX12_act_0 15 rfl rfl)
theorem dX12_act_18 : decode cX12_act 18 = .ok (.goto 13, 3) := dk_167 0 13 (dk_at dksX12_act_0 18 rfl rfl)
theorem dX12_act_21 : decode cX12_act 21 = .ok (.aload_n 2, 1) := dk_44 (dk_at dksX12_act_0 21 rfl rfl)
theorem dX12_act_22 : decode cX12_act 22 = .ok (.dup, 1) := dk_89 (dk_at dksX12_act_0 22 rfl rfl)
theorem dX12_act_23 : decode cX12_act 23 = .ok (.getfield 7, 3) := dk_180 0 7 (dk_at dksX12_act_1 0 rfl rfl)
theorem dX12_act_26 : decode cX12_act 26 = .ok (.iconst 1, 1) := dk_4 (dk_at dksX12_act_1 3 rfl rfl)
theorem dX12_act_27 : decode cX12_act 27 = .ok (.isub, 1) := dk_100 (dk_at dksX12_act_1 4 rfl rfl)
theorem dX12_act_28 : decode cX12_act 28 = .ok (.putfield 7, 3) := dk_181 0 7 (dk_at dksX12_act_1 5 rfl rfl)
theorem dX12_act_31 : decode cX12_act 31 = .ok (.iconst 1, 1) := dk_4 (dk_at dksX12_act_1 8 rfl rfl)
theorem dX12_act_32 : decode cX12_act 32 = .ok (.ireturn, 1) := dk_172 (dk_at dksX12_act_1 9 rfl rfl)
theorem q70 : (Jvm.Cond.initialized "KioskReel$Loop") ∈ lw_all := lw_g (lw_at lw_m1 28 rfl) rfl
theorem q189 : (Jvm.Cond.selects "KioskReel$Loop" ({ cls := "java/lang/Object", name := "getClass", desc := "()Ljava/lang/Class;" } : Jvm.MethodName) ({ cls := "java/lang/Object", name := "getClass", desc := "()Ljava/lang/Class;" } : Jvm.MethodName)) ∈ lw_all := lw_g (lw_at lw_m1 147 rfl) rfl
theorem q439 : (Jvm.Cond.selects "KioskReel$Loop" ({ cls := "java/lang/Object", name := "equals", desc := "(Ljava/lang/Object;)Z" } : Jvm.MethodName) ({ cls := "java/lang/Object", name := "equals", desc := "(Ljava/lang/Object;)Z" } : Jvm.MethodName)) ∈ lw_all := lw_g (lw_at lw_m2 157 rfl) rfl
theorem q628 : (Jvm.Cond.fieldLinkNest "KioskReel$Loop" (17 : Nat) "KioskReel$Line" "number" "I" "KioskReel") ∈ lw_tbl := lw_at lw_m3 106 rfl
theorem q674 : (Jvm.Cond.instantiable "KioskReel$Loop" (1 : Nat)) ∈ lw_all := lw_g (lw_at lw_m3 152 rfl) rfl
theorem q676 : (Jvm.Cond.instanceMethod ({ cls := "KioskReel$Loop", name := "<init>", desc := "(I)V" } : Jvm.MethodName)) ∈ lw_all := lw_g (lw_at lw_m3 154 rfl) rfl
theorem q677 : (Jvm.Cond.code ({ cls := "KioskReel$Loop", name := "<init>", desc := "(I)V" } : Jvm.MethodName) prog_10_method_1_code (2 : Nat) (Option.none : Option Jvm.ClassFile.FieldType)) ∈ lw_all := lw_g (lw_at lw_m3 155 rfl) rfl
theorem q678 : (Jvm.Cond.methodLink "KioskReel$Loop" (1 : Nat) ({ cls := "KioskReel$Line", name := "<init>", desc := "(I)V" } : Jvm.MethodName)) ∈ lw_all := lw_g (lw_at lw_m3 156 rfl) rfl
theorem q679 : (Jvm.Cond.laysFinal "KioskReel$Loop" "KioskReel$Line" "number" "I") ∈ lw_all := lw_g (lw_at lw_m3 157 rfl) rfl
theorem q680 : (Jvm.Cond.superclass "KioskReel$Loop" "KioskReel$Line") ∈ lw_all := lw_g (lw_at lw_m3 158 rfl) rfl
theorem q1125 : (Jvm.Cond.fieldLinkNest "KioskReel$Loop" (20 : Nat) "KioskReel$Frame" "next" "I" "KioskReel") ∈ lw_tbl := lw_at lw_m5 123 rfl
theorem q1144 : (Jvm.Cond.fieldLinkNest "KioskReel$Loop" (7 : Nat) "KioskReel$Player" "count" "I" "KioskReel") ∈ lw_tbl := lw_at lw_m5 142 rfl
theorem q1347 : (Jvm.Cond.selects "KioskReel$Loop" ({ cls := "KioskReel$Line", name := "act", desc := "(LKioskReel;LKioskReel$Player;LKioskReel$Kiosk;)Z" } : Jvm.MethodName) ({ cls := "KioskReel$Loop", name := "act", desc := "(LKioskReel;LKioskReel$Player;LKioskReel$Kiosk;)Z" } : Jvm.MethodName)) ∈ lw_all := lw_g (lw_at lw_m6 105 rfl) rfl
theorem q1348 : (Jvm.Cond.instanceMethod ({ cls := "KioskReel$Loop", name := "act", desc := "(LKioskReel;LKioskReel$Player;LKioskReel$Kiosk;)Z" } : Jvm.MethodName)) ∈ lw_all := lw_g (lw_at lw_m6 106 rfl) rfl
theorem q1349 : (Jvm.Cond.code ({ cls := "KioskReel$Loop", name := "act", desc := "(LKioskReel;LKioskReel$Player;LKioskReel$Kiosk;)Z" } : Jvm.MethodName) prog_10_method_2_code (4 : Nat) (Option.some Jvm.ClassFile.FieldType.boolean)) ∈ lw_all := lw_g (lw_at lw_m6 107 rfl) rfl
theorem q1350 : (Jvm.Cond.methodLink "KioskReel$Loop" (13 : Nat) ({ cls := "KioskReel$Player", name := "top", desc := "()LKioskReel$Frame;" } : Jvm.MethodName)) ∈ lw_all := lw_g (lw_at lw_m6 108 rfl) rfl
theorem q1880 : (Jvm.Cond.castable "KioskReel$Loop" "KioskReel$Line") ∈ lw_tbl := lw_at lw_m8 158 rfl
theorem q1893 : (Jvm.Cond.castable "KioskReel$Loop" "java/lang/Object") ∈ lw_tbl := lw_at lw_m8 171 rfl
theorem in_X12 : ∀ w ∈ wsX120, w ∈ lw_all := lw_in wsX120 [679] (by decide +kernel) (by decide +kernel)

/-! KioskReel$SetCount -/
set_option maxRecDepth 100000
def RX13 : String := "KioskReel$SetCount"
def TX13 : u_T := fun k => match k with
  | _ => ("KioskReel$Line", "number", "I", true)
def tyX13 : Nat → FieldType := fun k => match k with
  | _ => .int
abbrev wsX130 : List Cond := u_ws RX13 TX13 1
theorem nmX13 : ∀ a, a < 1 → ∀ b, b < 1 → a ≠ b → (TX13 a).2.1 ≠ (TX13 b).2.1 := by decide +kernel
theorem tyX13_ok : ∀ k, k < 1 → parseFieldDescriptor (TX13 k).2.2.1 = some (tyX13 k) := by decide +kernel
abbrev cX13_init : ByteArray := prog_15_method_1_code
def yX13_init : MethodName := ⟨RX13, "<init>", "(I)V"⟩
def dkwX13_init_0 : List UInt8 := [42, 27, 183, 0, 1, 177]
abbrev dktX13_init_0 : List UInt8 := dkwX13_init_0 ++ []
theorem dksX13_init_0 : cX13_init.data.toList.drop 0 = dktX13_init_0 := by decide +kernel
theorem dX13_init_0 : decode cX13_init 0 = .ok (.aload_n 0, 1) := dk_42 (dk_at dksX13_init_0 0 rfl rfl)
theorem dX13_init_1 : decode cX13_init 1 = .ok (.iload_n 1, 1) := dk_27 (dk_at dksX13_init_0 1 rfl rfl)
theorem dX13_init_2 : decode cX13_init 2 = .ok (.invokespecial 1, 3) := dk_183 0 1 (dk_at dksX13_init_0 2 rfl rfl)
theorem dX13_init_5 : decode cX13_init 5 = .ok (.return_, 1) := dk_177 (dk_at dksX13_init_0 5 rfl rfl)
abbrev cX13_act : ByteArray := prog_15_method_2_code
def yX13_act : MethodName := ⟨RX13, "act", "(LKioskReel;LKioskReel$Player;LKioskReel$Kiosk;)Z"⟩
def dkwX13_act_0 : List UInt8 := [44, 42, 180, 0, 7, 181, 0, 11, 4, 172]
abbrev dktX13_act_0 : List UInt8 := dkwX13_act_0 ++ []
theorem dksX13_act_0 : cX13_act.data.toList.drop 0 = dktX13_act_0 := by decide +kernel
theorem dX13_act_0 : decode cX13_act 0 = .ok (.aload_n 2, 1) := dk_44 (dk_at dksX13_act_0 0 rfl rfl)
theorem dX13_act_1 : decode cX13_act 1 = .ok (.aload_n 0, 1) := dk_42 (dk_at dksX13_act_0 1 rfl rfl)
theorem dX13_act_2 : decode cX13_act 2 = .ok (.getfield 7, 3) := dk_180 0 7 (dk_at dksX13_act_0 2 rfl rfl)
theorem dX13_act_5 : decode cX13_act 5 = .ok (.putfield 11, 3) := dk_181 0 11 (dk_at dksX13_act_0 5 rfl rfl)
theorem dX13_act_8 : decode cX13_act 8 = .ok (.iconst 1, 1) := dk_4 (dk_at dksX13_act_0 8 rfl rfl)
theorem dX13_act_9 : decode cX13_act 9 = .ok (.ireturn, 1) := dk_172 (dk_at dksX13_act_0 9 rfl rfl)
theorem q71 : (Jvm.Cond.initialized "KioskReel$SetCount") ∈ lw_all := lw_g (lw_at lw_m1 29 rfl) rfl
theorem q194 : (Jvm.Cond.selects "KioskReel$SetCount" ({ cls := "java/lang/Object", name := "getClass", desc := "()Ljava/lang/Class;" } : Jvm.MethodName) ({ cls := "java/lang/Object", name := "getClass", desc := "()Ljava/lang/Class;" } : Jvm.MethodName)) ∈ lw_all := lw_g (lw_at lw_m1 152 rfl) rfl
theorem q444 : (Jvm.Cond.selects "KioskReel$SetCount" ({ cls := "java/lang/Object", name := "equals", desc := "(Ljava/lang/Object;)Z" } : Jvm.MethodName) ({ cls := "java/lang/Object", name := "equals", desc := "(Ljava/lang/Object;)Z" } : Jvm.MethodName)) ∈ lw_all := lw_g (lw_at lw_m2 162 rfl) rfl
theorem q623 : (Jvm.Cond.fieldLinkNest "KioskReel$SetCount" (7 : Nat) "KioskReel$Line" "number" "I" "KioskReel") ∈ lw_tbl := lw_at lw_m3 101 rfl
theorem q682 : (Jvm.Cond.instantiable "KioskReel$SetCount" (1 : Nat)) ∈ lw_all := lw_g (lw_at lw_m3 160 rfl) rfl
theorem q684 : (Jvm.Cond.instanceMethod ({ cls := "KioskReel$SetCount", name := "<init>", desc := "(I)V" } : Jvm.MethodName)) ∈ lw_all := lw_g (lw_at lw_m3 162 rfl) rfl
theorem q685 : (Jvm.Cond.code ({ cls := "KioskReel$SetCount", name := "<init>", desc := "(I)V" } : Jvm.MethodName) prog_15_method_1_code (2 : Nat) (Option.none : Option Jvm.ClassFile.FieldType)) ∈ lw_all := lw_g (lw_at lw_m3 163 rfl) rfl
theorem q686 : (Jvm.Cond.methodLink "KioskReel$SetCount" (1 : Nat) ({ cls := "KioskReel$Line", name := "<init>", desc := "(I)V" } : Jvm.MethodName)) ∈ lw_all := lw_g (lw_at lw_m3 164 rfl) rfl
theorem q687 : (Jvm.Cond.laysFinal "KioskReel$SetCount" "KioskReel$Line" "number" "I") ∈ lw_all := lw_g (lw_at lw_m3 165 rfl) rfl
theorem q688 : (Jvm.Cond.superclass "KioskReel$SetCount" "KioskReel$Line") ∈ lw_all := lw_g (lw_at lw_m3 166 rfl) rfl
theorem q1145 : (Jvm.Cond.fieldLinkNest "KioskReel$SetCount" (11 : Nat) "KioskReel$Player" "count" "I" "KioskReel") ∈ lw_tbl := lw_at lw_m5 143 rfl
theorem q1366 : (Jvm.Cond.selects "KioskReel$SetCount" ({ cls := "KioskReel$Line", name := "act", desc := "(LKioskReel;LKioskReel$Player;LKioskReel$Kiosk;)Z" } : Jvm.MethodName) ({ cls := "KioskReel$SetCount", name := "act", desc := "(LKioskReel;LKioskReel$Player;LKioskReel$Kiosk;)Z" } : Jvm.MethodName)) ∈ lw_all := lw_g (lw_at lw_m6 124 rfl) rfl
theorem q1367 : (Jvm.Cond.instanceMethod ({ cls := "KioskReel$SetCount", name := "act", desc := "(LKioskReel;LKioskReel$Player;LKioskReel$Kiosk;)Z" } : Jvm.MethodName)) ∈ lw_all := lw_g (lw_at lw_m6 125 rfl) rfl
theorem q1368 : (Jvm.Cond.code ({ cls := "KioskReel$SetCount", name := "act", desc := "(LKioskReel;LKioskReel$Player;LKioskReel$Kiosk;)Z" } : Jvm.MethodName) prog_15_method_2_code (4 : Nat) (Option.some Jvm.ClassFile.FieldType.boolean)) ∈ lw_all := lw_g (lw_at lw_m6 126 rfl) rfl
theorem q1883 : (Jvm.Cond.castable "KioskReel$SetCount" "KioskReel$Line") ∈ lw_tbl := lw_at lw_m8 161 rfl
theorem q1894 : (Jvm.Cond.castable "KioskReel$SetCount" "java/lang/Object") ∈ lw_tbl := lw_at lw_m8 172 rfl
theorem in_X13 : ∀ w ∈ wsX130, w ∈ lw_all := lw_in wsX130 [687] (by decide +kernel) (by decide +kernel)

/-! KioskReel$PlayList -/
set_option maxRecDepth 100000
def RX14 : String := "KioskReel$PlayList"
def TX14 : u_T := fun k => match k with
  | _ => ("KioskReel$Line", "number", "I", true)
def tyX14 : Nat → FieldType := fun k => match k with
  | _ => .int
abbrev wsX140 : List Cond := u_ws RX14 TX14 1
theorem nmX14 : ∀ a, a < 1 → ∀ b, b < 1 → a ≠ b → (TX14 a).2.1 ≠ (TX14 b).2.1 := by decide +kernel
theorem tyX14_ok : ∀ k, k < 1 → parseFieldDescriptor (TX14 k).2.2.1 = some (tyX14 k) := by decide +kernel
abbrev cX14_init : ByteArray := prog_12_method_1_code
def yX14_init : MethodName := ⟨RX14, "<init>", "(I)V"⟩
def dkwX14_init_0 : List UInt8 := [42, 27, 183, 0, 3, 177]
abbrev dktX14_init_0 : List UInt8 := dkwX14_init_0 ++ []
theorem dksX14_init_0 : cX14_init.data.toList.drop 0 = dktX14_init_0 := by decide +kernel
theorem dX14_init_0 : decode cX14_init 0 = .ok (.aload_n 0, 1) := dk_42 (dk_at dksX14_init_0 0 rfl rfl)
theorem dX14_init_1 : decode cX14_init 1 = .ok (.iload_n 1, 1) := dk_27 (dk_at dksX14_init_0 1 rfl rfl)
theorem dX14_init_2 : decode cX14_init 2 = .ok (.invokespecial 3, 3) := dk_183 0 3 (dk_at dksX14_init_0 2 rfl rfl)
theorem dX14_init_5 : decode cX14_init 5 = .ok (.return_, 1) := dk_177 (dk_at dksX14_init_0 5 rfl rfl)
abbrev cX14_act : ByteArray := prog_12_method_2_code
def yX14_act : MethodName := ⟨RX14, "act", "(LKioskReel;LKioskReel$Player;LKioskReel$Kiosk;)Z"⟩
def dkwX14_act_2 : List UInt8 := [180, 0, 9, 185, 0, 30, 2, 0, 192, 0, 34, 183, 0, 36, 185, 0, 39, 2, 0, 87, 4, 172]
abbrev dktX14_act_2 : List UInt8 := dkwX14_act_2 ++ []
def dkwX14_act_1 : List UInt8 := [185, 0, 17, 1, 0, 7, 162, 0, 36, 44, 180, 0, 23, 187, 0, 28, 89, 43, 180, 0, 13, 42]
abbrev dktX14_act_1 : List UInt8 := dkwX14_act_1 ++ dktX14_act_2
def dkwX14_act_0 : List UInt8 := [42, 180, 0, 9, 43, 180, 0, 13, 185, 0, 17, 1, 0, 162, 0, 49, 44, 180, 0, 23]
abbrev dktX14_act_0 : List UInt8 := dkwX14_act_0 ++ dktX14_act_1
theorem dksX14_act_0 : cX14_act.data.toList.drop 0 = dktX14_act_0 := by decide +kernel
theorem dksX14_act_1 : cX14_act.data.toList.drop 20 = dktX14_act_1 := dk_seg dksX14_act_0 20 rfl rfl
theorem dksX14_act_2 : cX14_act.data.toList.drop 42 = dktX14_act_2 := dk_seg dksX14_act_1 22 rfl rfl
theorem dX14_act_0 : decode cX14_act 0 = .ok (.aload_n 0, 1) := dk_42 (dk_at dksX14_act_0 0 rfl rfl)
theorem dX14_act_1 : decode cX14_act 1 = .ok (.getfield 9, 3) := dk_180 0 9 (dk_at dksX14_act_0 1 rfl rfl)
theorem dX14_act_4 : decode cX14_act 4 = .ok (.aload_n 1, 1) := dk_43 (dk_at dksX14_act_0 4 rfl rfl)
theorem dX14_act_5 : decode cX14_act 5 = .ok (.getfield 13, 3) := dk_180 0 13 (dk_at dksX14_act_0 5 rfl rfl)
theorem dX14_act_8 : decode cX14_act 8 = .ok (.invokeinterface 17 1, 5) := by decide +kernel
theorem dX14_act_13 : decode cX14_act 13 = .ok (.if_icmp .ge 49, 3) := dk_162 0 49 (dk_at dksX14_act_0 13 rfl rfl)
theorem dX14_act_16 : decode cX14_act 16 = .ok (.aload_n 2, 1) := dk_44 (dk_at dksX14_act_0 16 rfl rfl)
theorem dX14_act_17 : decode cX14_act 17 = .ok (.getfield 23, 3) := dk_180 0 23 (dk_at dksX14_act_0 17 rfl rfl)
theorem dX14_act_20 : decode cX14_act 20 = .ok (.invokeinterface 17 1, 5) := by decide +kernel
theorem dX14_act_25 : decode cX14_act 25 = .ok (.iconst 4, 1) := dk_7 (dk_at dksX14_act_1 5 rfl rfl)
theorem dX14_act_26 : decode cX14_act 26 = .ok (.if_icmp .ge 36, 3) := dk_162 0 36 (dk_at dksX14_act_1 6 rfl rfl)
theorem dX14_act_29 : decode cX14_act 29 = .ok (.aload_n 2, 1) := dk_44 (dk_at dksX14_act_1 9 rfl rfl)
theorem dX14_act_30 : decode cX14_act 30 = .ok (.getfield 23, 3) := dk_180 0 23 (dk_at dksX14_act_1 10 rfl rfl)
theorem dX14_act_33 : decode cX14_act 33 = .ok (.new 28, 3) := dk_187 0 28 (dk_at dksX14_act_1 13 rfl rfl)
theorem dX14_act_36 : decode cX14_act 36 = .ok (.dup, 1) := dk_89 (dk_at dksX14_act_1 16 rfl rfl)
theorem dX14_act_37 : decode cX14_act 37 = .ok (.aload_n 1, 1) := dk_43 (dk_at dksX14_act_1 17 rfl rfl)
theorem dX14_act_38 : decode cX14_act 38 = .ok (.getfield 13, 3) := dk_180 0 13 (dk_at dksX14_act_1 18 rfl rfl)
theorem dX14_act_41 : decode cX14_act 41 = .ok (.aload_n 0, 1) := dk_42 (dk_at dksX14_act_1 21 rfl rfl)
theorem dX14_act_42 : decode cX14_act 42 = .ok (.getfield 9, 3) := dk_180 0 9 (dk_at dksX14_act_2 0 rfl rfl)
theorem dX14_act_45 : decode cX14_act 45 = .ok (.invokeinterface 30 2, 5) := by decide +kernel
theorem dX14_act_50 : decode cX14_act 50 = .ok (.checkcast 34, 3) := dk_192 0 34 (dk_at dksX14_act_2 8 rfl rfl)
theorem dX14_act_53 : decode cX14_act 53 = .ok (.invokespecial 36, 3) := dk_183 0 36 (dk_at dksX14_act_2 11 rfl rfl)
theorem dX14_act_56 : decode cX14_act 56 = .ok (.invokeinterface 39 2, 5) := by decide +kernel
theorem dX14_act_61 : decode cX14_act 61 = .ok (.pop, 1) := dk_87 (dk_at dksX14_act_2 19 rfl rfl)
theorem dX14_act_62 : decode cX14_act 62 = .ok (.iconst 1, 1) := dk_4 (dk_at dksX14_act_2 20 rfl rfl)
theorem dX14_act_63 : decode cX14_act 63 = .ok (.ireturn, 1) := dk_172 (dk_at dksX14_act_2 21 rfl rfl)
theorem q72 : (Jvm.Cond.initialized "KioskReel$PlayList") ∈ lw_all := lw_g (lw_at lw_m1 30 rfl) rfl
theorem q191 : (Jvm.Cond.selects "KioskReel$PlayList" ({ cls := "java/lang/Object", name := "getClass", desc := "()Ljava/lang/Class;" } : Jvm.MethodName) ({ cls := "java/lang/Object", name := "getClass", desc := "()Ljava/lang/Class;" } : Jvm.MethodName)) ∈ lw_all := lw_g (lw_at lw_m1 149 rfl) rfl
theorem q225 : (Jvm.Cond.fieldLinkNest "KioskReel$PlayList" (13 : Nat) "KioskReel" "lists" "Ljava/util/List;" "KioskReel") ∈ lw_tbl := lw_at lw_m1 183 rfl
theorem q441 : (Jvm.Cond.selects "KioskReel$PlayList" ({ cls := "java/lang/Object", name := "equals", desc := "(Ljava/lang/Object;)Z" } : Jvm.MethodName) ({ cls := "java/lang/Object", name := "equals", desc := "(Ljava/lang/Object;)Z" } : Jvm.MethodName)) ∈ lw_all := lw_g (lw_at lw_m2 159 rfl) rfl
theorem q621 : (Jvm.Cond.fieldLinkNest "KioskReel$PlayList" (9 : Nat) "KioskReel$Line" "number" "I" "KioskReel") ∈ lw_tbl := lw_at lw_m3 99 rfl
theorem q690 : (Jvm.Cond.instantiable "KioskReel$PlayList" (1 : Nat)) ∈ lw_all := lw_g (lw_at lw_m3 168 rfl) rfl
theorem q692 : (Jvm.Cond.instanceMethod ({ cls := "KioskReel$PlayList", name := "<init>", desc := "(I)V" } : Jvm.MethodName)) ∈ lw_all := lw_g (lw_at lw_m3 170 rfl) rfl
theorem q693 : (Jvm.Cond.code ({ cls := "KioskReel$PlayList", name := "<init>", desc := "(I)V" } : Jvm.MethodName) prog_12_method_1_code (2 : Nat) (Option.none : Option Jvm.ClassFile.FieldType)) ∈ lw_all := lw_g (lw_at lw_m3 171 rfl) rfl
theorem q694 : (Jvm.Cond.methodLink "KioskReel$PlayList" (3 : Nat) ({ cls := "KioskReel$Line", name := "<init>", desc := "(I)V" } : Jvm.MethodName)) ∈ lw_all := lw_g (lw_at lw_m3 172 rfl) rfl
theorem q695 : (Jvm.Cond.laysFinal "KioskReel$PlayList" "KioskReel$Line" "number" "I") ∈ lw_all := lw_g (lw_at lw_m3 173 rfl) rfl
theorem q696 : (Jvm.Cond.superclass "KioskReel$PlayList" "KioskReel$Line") ∈ lw_all := lw_g (lw_at lw_m3 174 rfl) rfl
theorem q1140 : (Jvm.Cond.fieldLinkNest "KioskReel$PlayList" (23 : Nat) "KioskReel$Player" "pile" "Ljava/util/List;" "KioskReel") ∈ lw_tbl := lw_at lw_m5 138 rfl
theorem q1354 : (Jvm.Cond.selects "KioskReel$PlayList" ({ cls := "KioskReel$Line", name := "act", desc := "(LKioskReel;LKioskReel$Player;LKioskReel$Kiosk;)Z" } : Jvm.MethodName) ({ cls := "KioskReel$PlayList", name := "act", desc := "(LKioskReel;LKioskReel$Player;LKioskReel$Kiosk;)Z" } : Jvm.MethodName)) ∈ lw_all := lw_g (lw_at lw_m6 112 rfl) rfl
theorem q1355 : (Jvm.Cond.instanceMethod ({ cls := "KioskReel$PlayList", name := "act", desc := "(LKioskReel;LKioskReel$Player;LKioskReel$Kiosk;)Z" } : Jvm.MethodName)) ∈ lw_all := lw_g (lw_at lw_m6 113 rfl) rfl
theorem q1356 : (Jvm.Cond.code ({ cls := "KioskReel$PlayList", name := "act", desc := "(LKioskReel;LKioskReel$Player;LKioskReel$Kiosk;)Z" } : Jvm.MethodName) prog_12_method_2_code (4 : Nat) (Option.some Jvm.ClassFile.FieldType.boolean)) ∈ lw_all := lw_g (lw_at lw_m6 114 rfl) rfl
theorem q1357 : (Jvm.Cond.interfaceEntry "KioskReel$PlayList" (17 : Nat)) ∈ lw_tbl := lw_at lw_m6 115 rfl
theorem q1358 : (Jvm.Cond.methodLink "KioskReel$PlayList" (17 : Nat) ({ cls := "java/util/List", name := "size", desc := "()I" } : Jvm.MethodName)) ∈ lw_all := lw_g (lw_at lw_m6 116 rfl) rfl
theorem q1359 : (Jvm.Cond.classLink "KioskReel$PlayList" (28 : Nat) "KioskReel$Frame") ∈ lw_all := lw_g (lw_at lw_m6 117 rfl) rfl
theorem q1360 : (Jvm.Cond.interfaceEntry "KioskReel$PlayList" (30 : Nat)) ∈ lw_tbl := lw_at lw_m6 118 rfl
theorem q1361 : (Jvm.Cond.methodLink "KioskReel$PlayList" (30 : Nat) ({ cls := "java/util/List", name := "get", desc := "(I)Ljava/lang/Object;" } : Jvm.MethodName)) ∈ lw_all := lw_g (lw_at lw_m6 119 rfl) rfl
theorem q1362 : (Jvm.Cond.classLink "KioskReel$PlayList" (34 : Nat) "KioskReel$Playlist") ∈ lw_all := lw_g (lw_at lw_m6 120 rfl) rfl
theorem q1363 : (Jvm.Cond.methodLink "KioskReel$PlayList" (36 : Nat) ({ cls := "KioskReel$Frame", name := "<init>", desc := "(LKioskReel$Playlist;)V" } : Jvm.MethodName)) ∈ lw_all := lw_g (lw_at lw_m6 121 rfl) rfl
theorem q1364 : (Jvm.Cond.interfaceEntry "KioskReel$PlayList" (39 : Nat)) ∈ lw_tbl := lw_at lw_m6 122 rfl
theorem q1365 : (Jvm.Cond.methodLink "KioskReel$PlayList" (39 : Nat) ({ cls := "java/util/List", name := "add", desc := "(Ljava/lang/Object;)Z" } : Jvm.MethodName)) ∈ lw_all := lw_g (lw_at lw_m6 123 rfl) rfl
theorem q1882 : (Jvm.Cond.castable "KioskReel$PlayList" "KioskReel$Line") ∈ lw_tbl := lw_at lw_m8 160 rfl
theorem q1895 : (Jvm.Cond.castable "KioskReel$PlayList" "java/lang/Object") ∈ lw_tbl := lw_at lw_m8 173 rfl
theorem in_X14 : ∀ w ∈ wsX140, w ∈ lw_all := lw_in wsX140 [695] (by decide +kernel) (by decide +kernel)

/-! KioskReel$Kiosk -/
set_option maxRecDepth 100000
def RX15 : String := "KioskReel$Kiosk"
def TX15 : u_T := fun k => match k with
  | 0 => ("KioskReel$Kiosk", "number", "I", true)
  | 1 => ("KioskReel$Kiosk", "players", "Ljava/util/List;", true)
  | 2 => ("KioskReel$Kiosk", "own", "LKioskReel$Player;", false)
  | 3 => ("KioskReel$Kiosk", "isFrozen", "Z", false)
  | 4 => ("KioskReel$Kiosk", "isOut", "Z", false)
  | 5 => ("KioskReel$Kiosk", "frozen", "I", false)
  | _ => ("KioskReel$Kiosk", "slide", "I", false)
def tyX15 : Nat → FieldType := fun k => match k with
  | 0 => .int
  | 1 => .object "java/util/List"
  | 2 => .object "KioskReel$Player"
  | 3 => .boolean
  | 4 => .boolean
  | 5 => .int
  | _ => .int
abbrev wsX150 : List Cond := u_ws RX15 TX15 7
theorem nmX15 : ∀ a, a < 7 → ∀ b, b < 7 → a ≠ b → (TX15 a).2.1 ≠ (TX15 b).2.1 := by decide +kernel
theorem tyX15_ok : ∀ k, k < 7 → parseFieldDescriptor (TX15 k).2.2.1 = some (tyX15 k) := by decide +kernel
abbrev cX15_init : ByteArray := prog_8_method_1_code
def yX15_init : MethodName := ⟨RX15, "<init>", "(I)V"⟩
def dkwX15_init_1 : List UInt8 := [181, 0, 22, 177]
abbrev dktX15_init_1 : List UInt8 := dkwX15_init_1 ++ []
def dkwX15_init_0 : List UInt8 := [42, 183, 0, 3, 42, 187, 0, 9, 89, 183, 0, 11, 181, 0, 12, 42, 2, 181, 0, 18, 42, 27]
abbrev dktX15_init_0 : List UInt8 := dkwX15_init_0 ++ dktX15_init_1
theorem dksX15_init_0 : cX15_init.data.toList.drop 0 = dktX15_init_0 := by decide +kernel
theorem dksX15_init_1 : cX15_init.data.toList.drop 22 = dktX15_init_1 := dk_seg dksX15_init_0 22 rfl rfl
theorem dX15_init_0 : decode cX15_init 0 = .ok (.aload_n 0, 1) := dk_42 (dk_at dksX15_init_0 0 rfl rfl)
theorem dX15_init_1 : decode cX15_init 1 = .ok (.invokespecial 3, 3) := dk_183 0 3 (dk_at dksX15_init_0 1 rfl rfl)
theorem dX15_init_4 : decode cX15_init 4 = .ok (.aload_n 0, 1) := dk_42 (dk_at dksX15_init_0 4 rfl rfl)
theorem dX15_init_5 : decode cX15_init 5 = .ok (.new 9, 3) := dk_187 0 9 (dk_at dksX15_init_0 5 rfl rfl)
theorem dX15_init_8 : decode cX15_init 8 = .ok (.dup, 1) := dk_89 (dk_at dksX15_init_0 8 rfl rfl)
theorem dX15_init_9 : decode cX15_init 9 = .ok (.invokespecial 11, 3) := dk_183 0 11 (dk_at dksX15_init_0 9 rfl rfl)
theorem dX15_init_12 : decode cX15_init 12 = .ok (.putfield 12, 3) := dk_181 0 12 (dk_at dksX15_init_0 12 rfl rfl)
theorem dX15_init_15 : decode cX15_init 15 = .ok (.aload_n 0, 1) := dk_42 (dk_at dksX15_init_0 15 rfl rfl)
theorem dX15_init_16 : decode cX15_init 16 = .ok (.iconst (-1), 1) := dk_2 (dk_at dksX15_init_0 16 rfl rfl)
theorem dX15_init_17 : decode cX15_init 17 = .ok (.putfield 18, 3) := dk_181 0 18 (dk_at dksX15_init_0 17 rfl rfl)
theorem dX15_init_20 : decode cX15_init 20 = .ok (.aload_n 0, 1) := dk_42 (dk_at dksX15_init_0 20 rfl rfl)
theorem dX15_init_21 : decode cX15_init 21 = .ok (.iload_n 1, 1) := dk_27 (dk_at dksX15_init_0 21 rfl rfl)
theorem dX15_init_22 : decode cX15_init 22 = .ok (.putfield 22, 3) := dk_181 0 22 (dk_at dksX15_init_1 0 rfl rfl)
theorem dX15_init_25 : decode cX15_init 25 = .ok (.return_, 1) := dk_177 (dk_at dksX15_init_1 3 rfl rfl)
abbrev cX15_welcome : ByteArray := prog_8_method_2_code
def yX15_welcome : MethodName := ⟨RX15, "welcome", "(LKioskReel$Player;)V"⟩
def dkwX15_welcome_1 : List UInt8 := [180, 0, 12, 185, 0, 35, 1, 0, 43, 185, 0, 41, 3, 0, 177]
abbrev dktX15_welcome_1 : List UInt8 := dkwX15_welcome_1 ++ []
def dkwX15_welcome_0 : List UInt8 := [43, 42, 181, 0, 25, 42, 180, 0, 12, 43, 42, 180, 0, 31, 166, 0, 7, 3, 167, 0, 12, 42]
abbrev dktX15_welcome_0 : List UInt8 := dkwX15_welcome_0 ++ dktX15_welcome_1
theorem dksX15_welcome_0 : cX15_welcome.data.toList.drop 0 = dktX15_welcome_0 := by decide +kernel
theorem dksX15_welcome_1 : cX15_welcome.data.toList.drop 22 = dktX15_welcome_1 := dk_seg dksX15_welcome_0 22 rfl rfl
theorem dX15_welcome_0 : decode cX15_welcome 0 = .ok (.aload_n 1, 1) := dk_43 (dk_at dksX15_welcome_0 0 rfl rfl)
theorem dX15_welcome_1 : decode cX15_welcome 1 = .ok (.aload_n 0, 1) := dk_42 (dk_at dksX15_welcome_0 1 rfl rfl)
theorem dX15_welcome_2 : decode cX15_welcome 2 = .ok (.putfield 25, 3) := dk_181 0 25 (dk_at dksX15_welcome_0 2 rfl rfl)
theorem dX15_welcome_5 : decode cX15_welcome 5 = .ok (.aload_n 0, 1) := dk_42 (dk_at dksX15_welcome_0 5 rfl rfl)
theorem dX15_welcome_6 : decode cX15_welcome 6 = .ok (.getfield 12, 3) := dk_180 0 12 (dk_at dksX15_welcome_0 6 rfl rfl)
theorem dX15_welcome_9 : decode cX15_welcome 9 = .ok (.aload_n 1, 1) := dk_43 (dk_at dksX15_welcome_0 9 rfl rfl)
theorem dX15_welcome_10 : decode cX15_welcome 10 = .ok (.aload_n 0, 1) := dk_42 (dk_at dksX15_welcome_0 10 rfl rfl)
theorem dX15_welcome_11 : decode cX15_welcome 11 = .ok (.getfield 31, 3) := dk_180 0 31 (dk_at dksX15_welcome_0 11 rfl rfl)
theorem dX15_welcome_14 : decode cX15_welcome 14 = .ok (.if_acmp .ne 7, 3) := dk_166 0 7 (dk_at dksX15_welcome_0 14 rfl rfl)
theorem dX15_welcome_17 : decode cX15_welcome 17 = .ok (.iconst 0, 1) := dk_3 (dk_at dksX15_welcome_0 17 rfl rfl)
theorem dX15_welcome_18 : decode cX15_welcome 18 = .ok (.goto 12, 3) := dk_167 0 12 (dk_at dksX15_welcome_0 18 rfl rfl)
theorem dX15_welcome_21 : decode cX15_welcome 21 = .ok (.aload_n 0, 1) := dk_42 (dk_at dksX15_welcome_0 21 rfl rfl)
theorem dX15_welcome_22 : decode cX15_welcome 22 = .ok (.getfield 12, 3) := dk_180 0 12 (dk_at dksX15_welcome_1 0 rfl rfl)
theorem dX15_welcome_25 : decode cX15_welcome 25 = .ok (.invokeinterface 35 1, 5) := by decide +kernel
theorem dX15_welcome_30 : decode cX15_welcome 30 = .ok (.aload_n 1, 1) := dk_43 (dk_at dksX15_welcome_1 8 rfl rfl)
theorem dX15_welcome_31 : decode cX15_welcome 31 = .ok (.invokeinterface 41 3, 5) := by decide +kernel
theorem dX15_welcome_36 : decode cX15_welcome 36 = .ok (.return_, 1) := dk_177 (dk_at dksX15_welcome_1 14 rfl rfl)
theorem q83 : (Jvm.Cond.initialized "KioskReel$Kiosk") ∈ lw_all := lw_g (lw_at lw_m1 41 rfl) rfl
theorem q188 : (Jvm.Cond.selects "KioskReel$Kiosk" ({ cls := "java/lang/Object", name := "getClass", desc := "()Ljava/lang/Class;" } : Jvm.MethodName) ({ cls := "java/lang/Object", name := "getClass", desc := "()Ljava/lang/Class;" } : Jvm.MethodName)) ∈ lw_all := lw_g (lw_at lw_m1 146 rfl) rfl
theorem q438 : (Jvm.Cond.selects "KioskReel$Kiosk" ({ cls := "java/lang/Object", name := "equals", desc := "(Ljava/lang/Object;)Z" } : Jvm.MethodName) ({ cls := "java/lang/Object", name := "equals", desc := "(Ljava/lang/Object;)Z" } : Jvm.MethodName)) ∈ lw_all := lw_g (lw_at lw_m2 156 rfl) rfl
theorem q1059 : (Jvm.Cond.instantiable "KioskReel$Kiosk" (7 : Nat)) ∈ lw_all := lw_g (lw_at lw_m5 57 rfl) rfl
theorem q1061 : (Jvm.Cond.instanceMethod ({ cls := "KioskReel$Kiosk", name := "<init>", desc := "(I)V" } : Jvm.MethodName)) ∈ lw_all := lw_g (lw_at lw_m5 59 rfl) rfl
theorem q1062 : (Jvm.Cond.code ({ cls := "KioskReel$Kiosk", name := "<init>", desc := "(I)V" } : Jvm.MethodName) prog_8_method_1_code (2 : Nat) (Option.none : Option Jvm.ClassFile.FieldType)) ∈ lw_all := lw_g (lw_at lw_m5 60 rfl) rfl
theorem q1063 : (Jvm.Cond.methodLink "KioskReel$Kiosk" (3 : Nat) ({ cls := "java/lang/Object", name := "<init>", desc := "()V" } : Jvm.MethodName)) ∈ lw_all := lw_g (lw_at lw_m5 61 rfl) rfl
theorem q1064 : (Jvm.Cond.classLink "KioskReel$Kiosk" (9 : Nat) "java/util/ArrayList") ∈ lw_all := lw_g (lw_at lw_m5 62 rfl) rfl
theorem q1065 : (Jvm.Cond.methodLink "KioskReel$Kiosk" (11 : Nat) ({ cls := "java/util/ArrayList", name := "<init>", desc := "()V" } : Jvm.MethodName)) ∈ lw_all := lw_g (lw_at lw_m5 63 rfl) rfl
theorem q1066 : (Jvm.Cond.fieldLink "KioskReel$Kiosk" (22 : Nat) "KioskReel$Kiosk" "number" "I") ∈ lw_all := lw_g (lw_at lw_m5 64 rfl) rfl
theorem q1068 : (Jvm.Cond.fieldLink "KioskReel$Kiosk" (12 : Nat) "KioskReel$Kiosk" "players" "Ljava/util/List;") ∈ lw_all := lw_g (lw_at lw_m5 66 rfl) rfl
theorem q1070 : (Jvm.Cond.fieldLink "KioskReel$Kiosk" (31 : Nat) "KioskReel$Kiosk" "own" "LKioskReel$Player;") ∈ lw_all := lw_g (lw_at lw_m5 68 rfl) rfl
theorem q1075 : (Jvm.Cond.fieldLink "KioskReel$Kiosk" (18 : Nat) "KioskReel$Kiosk" "slide" "I") ∈ lw_all := lw_g (lw_at lw_m5 73 rfl) rfl
theorem q1077 : (Jvm.Cond.laysFinal "KioskReel$Kiosk" "KioskReel$Kiosk" "number" "I") ∈ lw_all := lw_g (lw_at lw_m5 75 rfl) rfl
theorem q1078 : (Jvm.Cond.soleField "KioskReel$Kiosk" "number") ∈ lw_all := lw_g (lw_at lw_m5 76 rfl) rfl
theorem q1079 : (Jvm.Cond.laysFinal "KioskReel$Kiosk" "KioskReel$Kiosk" "players" "Ljava/util/List;") ∈ lw_all := lw_g (lw_at lw_m5 77 rfl) rfl
theorem q1080 : (Jvm.Cond.soleField "KioskReel$Kiosk" "players") ∈ lw_all := lw_g (lw_at lw_m5 78 rfl) rfl
theorem q1081 : (Jvm.Cond.lays "KioskReel$Kiosk" "KioskReel$Kiosk" "own" "LKioskReel$Player;") ∈ lw_all := lw_g (lw_at lw_m5 79 rfl) rfl
theorem q1082 : (Jvm.Cond.soleField "KioskReel$Kiosk" "own") ∈ lw_all := lw_g (lw_at lw_m5 80 rfl) rfl
theorem q1083 : (Jvm.Cond.lays "KioskReel$Kiosk" "KioskReel$Kiosk" "isFrozen" "Z") ∈ lw_all := lw_g (lw_at lw_m5 81 rfl) rfl
theorem q1084 : (Jvm.Cond.soleField "KioskReel$Kiosk" "isFrozen") ∈ lw_all := lw_g (lw_at lw_m5 82 rfl) rfl
theorem q1085 : (Jvm.Cond.lays "KioskReel$Kiosk" "KioskReel$Kiosk" "isOut" "Z") ∈ lw_all := lw_g (lw_at lw_m5 83 rfl) rfl
theorem q1086 : (Jvm.Cond.soleField "KioskReel$Kiosk" "isOut") ∈ lw_all := lw_g (lw_at lw_m5 84 rfl) rfl
theorem q1087 : (Jvm.Cond.lays "KioskReel$Kiosk" "KioskReel$Kiosk" "frozen" "I") ∈ lw_all := lw_g (lw_at lw_m5 85 rfl) rfl
theorem q1088 : (Jvm.Cond.soleField "KioskReel$Kiosk" "frozen") ∈ lw_all := lw_g (lw_at lw_m5 86 rfl) rfl
theorem q1089 : (Jvm.Cond.lays "KioskReel$Kiosk" "KioskReel$Kiosk" "slide" "I") ∈ lw_all := lw_g (lw_at lw_m5 87 rfl) rfl
theorem q1090 : (Jvm.Cond.soleField "KioskReel$Kiosk" "slide") ∈ lw_all := lw_g (lw_at lw_m5 88 rfl) rfl
theorem q1091 : (Jvm.Cond.superclass "KioskReel$Kiosk" "java/lang/Object") ∈ lw_all := lw_g (lw_at lw_m5 89 rfl) rfl
theorem q1142 : (Jvm.Cond.fieldLinkNest "KioskReel$Kiosk" (25 : Nat) "KioskReel$Player" "at" "LKioskReel$Kiosk;" "KioskReel") ∈ lw_tbl := lw_at lw_m5 140 rfl
theorem q1174 : (Jvm.Cond.instanceMethod ({ cls := "KioskReel$Kiosk", name := "welcome", desc := "(LKioskReel$Player;)V" } : Jvm.MethodName)) ∈ lw_all := lw_g (lw_at lw_m5 172 rfl) rfl
theorem q1175 : (Jvm.Cond.selects "KioskReel$Kiosk" ({ cls := "KioskReel$Kiosk", name := "welcome", desc := "(LKioskReel$Player;)V" } : Jvm.MethodName) ({ cls := "KioskReel$Kiosk", name := "welcome", desc := "(LKioskReel$Player;)V" } : Jvm.MethodName)) ∈ lw_all := lw_g (lw_at lw_m5 173 rfl) rfl
theorem q1176 : (Jvm.Cond.code ({ cls := "KioskReel$Kiosk", name := "welcome", desc := "(LKioskReel$Player;)V" } : Jvm.MethodName) prog_8_method_2_code (2 : Nat) (Option.none : Option Jvm.ClassFile.FieldType)) ∈ lw_all := lw_g (lw_at lw_m5 174 rfl) rfl
theorem q1177 : (Jvm.Cond.interfaceEntry "KioskReel$Kiosk" (35 : Nat)) ∈ lw_tbl := lw_at lw_m5 175 rfl
theorem q1178 : (Jvm.Cond.methodLink "KioskReel$Kiosk" (35 : Nat) ({ cls := "java/util/List", name := "size", desc := "()I" } : Jvm.MethodName)) ∈ lw_all := lw_g (lw_at lw_m5 176 rfl) rfl
theorem q1179 : (Jvm.Cond.interfaceEntry "KioskReel$Kiosk" (41 : Nat)) ∈ lw_tbl := lw_at lw_m5 177 rfl
theorem q1180 : (Jvm.Cond.methodLink "KioskReel$Kiosk" (41 : Nat) ({ cls := "java/util/List", name := "add", desc := "(ILjava/lang/Object;)V" } : Jvm.MethodName)) ∈ lw_all := lw_g (lw_at lw_m5 178 rfl) rfl
theorem q1910 : (Jvm.Cond.castable "KioskReel$Kiosk" "java/lang/Object") ∈ lw_tbl := lw_at lw_m8 188 rfl
theorem in_X15 : ∀ w ∈ wsX150, w ∈ lw_all := lw_in wsX150 [1077, 1079, 1081, 1083, 1085, 1087, 1089] (by decide +kernel) (by decide +kernel)

/-! KioskReel$Player -/
set_option maxRecDepth 100000
def RX16 : String := "KioskReel$Player"
def TX16 : u_T := fun k => match k with
  | 0 => ("KioskReel$Player", "home", "I", true)
  | 1 => ("KioskReel$Player", "pile", "Ljava/util/List;", true)
  | 2 => ("KioskReel$Player", "at", "LKioskReel$Kiosk;", false)
  | 3 => ("KioskReel$Player", "count", "I", false)
  | 4 => ("KioskReel$Player", "wait", "I", false)
  | _ => ("KioskReel$Player", "isQueued", "Z", false)
def tyX16 : Nat → FieldType := fun k => match k with
  | 0 => .int
  | 1 => .object "java/util/List"
  | 2 => .object "KioskReel$Kiosk"
  | 3 => .int
  | 4 => .int
  | _ => .boolean
abbrev wsX160 : List Cond := u_ws RX16 TX16 6
theorem nmX16 : ∀ a, a < 6 → ∀ b, b < 6 → a ≠ b → (TX16 a).2.1 ≠ (TX16 b).2.1 := by decide +kernel
theorem tyX16_ok : ∀ k, k < 6 → parseFieldDescriptor (TX16 k).2.2.1 = some (tyX16 k) := by decide +kernel
abbrev cX16_init : ByteArray := prog_13_method_1_code
def yX16_init : MethodName := ⟨RX16, "<init>", "(ILKioskReel$Playlist;)V"⟩
def dkwX16_init_1 : List UInt8 := [187, 0, 20, 89, 44, 183, 0, 22, 185, 0, 25, 2, 0, 87, 177]
abbrev dktX16_init_1 : List UInt8 := dkwX16_init_1 ++ []
def dkwX16_init_0 : List UInt8 := [42, 183, 0, 1, 42, 187, 0, 7, 89, 183, 0, 9, 181, 0, 10, 42, 27, 181, 0, 16, 42, 180, 0, 10]
abbrev dktX16_init_0 : List UInt8 := dkwX16_init_0 ++ dktX16_init_1
theorem dksX16_init_0 : cX16_init.data.toList.drop 0 = dktX16_init_0 := by decide +kernel
theorem dksX16_init_1 : cX16_init.data.toList.drop 24 = dktX16_init_1 := dk_seg dksX16_init_0 24 rfl rfl
theorem dX16_init_0 : decode cX16_init 0 = .ok (.aload_n 0, 1) := dk_42 (dk_at dksX16_init_0 0 rfl rfl)
theorem dX16_init_1 : decode cX16_init 1 = .ok (.invokespecial 1, 3) := dk_183 0 1 (dk_at dksX16_init_0 1 rfl rfl)
theorem dX16_init_4 : decode cX16_init 4 = .ok (.aload_n 0, 1) := dk_42 (dk_at dksX16_init_0 4 rfl rfl)
theorem dX16_init_5 : decode cX16_init 5 = .ok (.new 7, 3) := dk_187 0 7 (dk_at dksX16_init_0 5 rfl rfl)
theorem dX16_init_8 : decode cX16_init 8 = .ok (.dup, 1) := dk_89 (dk_at dksX16_init_0 8 rfl rfl)
theorem dX16_init_9 : decode cX16_init 9 = .ok (.invokespecial 9, 3) := dk_183 0 9 (dk_at dksX16_init_0 9 rfl rfl)
theorem dX16_init_12 : decode cX16_init 12 = .ok (.putfield 10, 3) := dk_181 0 10 (dk_at dksX16_init_0 12 rfl rfl)
theorem dX16_init_15 : decode cX16_init 15 = .ok (.aload_n 0, 1) := dk_42 (dk_at dksX16_init_0 15 rfl rfl)
theorem dX16_init_16 : decode cX16_init 16 = .ok (.iload_n 1, 1) := dk_27 (dk_at dksX16_init_0 16 rfl rfl)
theorem dX16_init_17 : decode cX16_init 17 = .ok (.putfield 16, 3) := dk_181 0 16 (dk_at dksX16_init_0 17 rfl rfl)
theorem dX16_init_20 : decode cX16_init 20 = .ok (.aload_n 0, 1) := dk_42 (dk_at dksX16_init_0 20 rfl rfl)
theorem dX16_init_21 : decode cX16_init 21 = .ok (.getfield 10, 3) := dk_180 0 10 (dk_at dksX16_init_0 21 rfl rfl)
theorem dX16_init_24 : decode cX16_init 24 = .ok (.new 20, 3) := dk_187 0 20 (dk_at dksX16_init_1 0 rfl rfl)
theorem dX16_init_27 : decode cX16_init 27 = .ok (.dup, 1) := dk_89 (dk_at dksX16_init_1 3 rfl rfl)
theorem dX16_init_28 : decode cX16_init 28 = .ok (.aload_n 2, 1) := dk_44 (dk_at dksX16_init_1 4 rfl rfl)
theorem dX16_init_29 : decode cX16_init 29 = .ok (.invokespecial 22, 3) := dk_183 0 22 (dk_at dksX16_init_1 5 rfl rfl)
theorem dX16_init_32 : decode cX16_init 32 = .ok (.invokeinterface 25 2, 5) := by decide +kernel
theorem dX16_init_37 : decode cX16_init 37 = .ok (.pop, 1) := dk_87 (dk_at dksX16_init_1 13 rfl rfl)
theorem dX16_init_38 : decode cX16_init 38 = .ok (.return_, 1) := dk_177 (dk_at dksX16_init_1 14 rfl rfl)
abbrev cX16_top : ByteArray := prog_13_method_2_code
def yX16_top : MethodName := ⟨RX16, "top", "()LKioskReel$Frame;"⟩
def dkwX16_top_0 : List UInt8 := [42, 180, 0, 10, 42, 180, 0, 10, 185, 0, 31, 1, 0, 4, 100, 185, 0, 35, 2, 0, 192, 0, 20, 176]
abbrev dktX16_top_0 : List UInt8 := dkwX16_top_0 ++ []
theorem dksX16_top_0 : cX16_top.data.toList.drop 0 = dktX16_top_0 := by decide +kernel
theorem dX16_top_0 : decode cX16_top 0 = .ok (.aload_n 0, 1) := dk_42 (dk_at dksX16_top_0 0 rfl rfl)
theorem dX16_top_1 : decode cX16_top 1 = .ok (.getfield 10, 3) := dk_180 0 10 (dk_at dksX16_top_0 1 rfl rfl)
theorem dX16_top_4 : decode cX16_top 4 = .ok (.aload_n 0, 1) := dk_42 (dk_at dksX16_top_0 4 rfl rfl)
theorem dX16_top_5 : decode cX16_top 5 = .ok (.getfield 10, 3) := dk_180 0 10 (dk_at dksX16_top_0 5 rfl rfl)
theorem dX16_top_8 : decode cX16_top 8 = .ok (.invokeinterface 31 1, 5) := by decide +kernel
theorem dX16_top_13 : decode cX16_top 13 = .ok (.iconst 1, 1) := dk_4 (dk_at dksX16_top_0 13 rfl rfl)
theorem dX16_top_14 : decode cX16_top 14 = .ok (.isub, 1) := dk_100 (dk_at dksX16_top_0 14 rfl rfl)
theorem dX16_top_15 : decode cX16_top 15 = .ok (.invokeinterface 35 2, 5) := by decide +kernel
theorem dX16_top_20 : decode cX16_top 20 = .ok (.checkcast 20, 3) := dk_192 0 20 (dk_at dksX16_top_0 20 rfl rfl)
theorem dX16_top_23 : decode cX16_top 23 = .ok (.areturn, 1) := dk_176 (dk_at dksX16_top_0 23 rfl rfl)
theorem q84 : (Jvm.Cond.initialized "KioskReel$Player") ∈ lw_all := lw_g (lw_at lw_m1 42 rfl) rfl
theorem q192 : (Jvm.Cond.selects "KioskReel$Player" ({ cls := "java/lang/Object", name := "getClass", desc := "()Ljava/lang/Class;" } : Jvm.MethodName) ({ cls := "java/lang/Object", name := "getClass", desc := "()Ljava/lang/Class;" } : Jvm.MethodName)) ∈ lw_all := lw_g (lw_at lw_m1 150 rfl) rfl
theorem q442 : (Jvm.Cond.selects "KioskReel$Player" ({ cls := "java/lang/Object", name := "equals", desc := "(Ljava/lang/Object;)Z" } : Jvm.MethodName) ({ cls := "java/lang/Object", name := "equals", desc := "(Ljava/lang/Object;)Z" } : Jvm.MethodName)) ∈ lw_all := lw_g (lw_at lw_m2 160 rfl) rfl
theorem q1104 : (Jvm.Cond.instantiable "KioskReel$Player" (6 : Nat)) ∈ lw_all := lw_g (lw_at lw_m5 102 rfl) rfl
theorem q1106 : (Jvm.Cond.instanceMethod ({ cls := "KioskReel$Player", name := "<init>", desc := "(ILKioskReel$Playlist;)V" } : Jvm.MethodName)) ∈ lw_all := lw_g (lw_at lw_m5 104 rfl) rfl
theorem q1107 : (Jvm.Cond.code ({ cls := "KioskReel$Player", name := "<init>", desc := "(ILKioskReel$Playlist;)V" } : Jvm.MethodName) prog_13_method_1_code (3 : Nat) (Option.none : Option Jvm.ClassFile.FieldType)) ∈ lw_all := lw_g (lw_at lw_m5 105 rfl) rfl
theorem q1108 : (Jvm.Cond.methodLink "KioskReel$Player" (1 : Nat) ({ cls := "java/lang/Object", name := "<init>", desc := "()V" } : Jvm.MethodName)) ∈ lw_all := lw_g (lw_at lw_m5 106 rfl) rfl
theorem q1109 : (Jvm.Cond.classLink "KioskReel$Player" (7 : Nat) "java/util/ArrayList") ∈ lw_all := lw_g (lw_at lw_m5 107 rfl) rfl
theorem q1110 : (Jvm.Cond.methodLink "KioskReel$Player" (9 : Nat) ({ cls := "java/util/ArrayList", name := "<init>", desc := "()V" } : Jvm.MethodName)) ∈ lw_all := lw_g (lw_at lw_m5 108 rfl) rfl
theorem q1111 : (Jvm.Cond.classLink "KioskReel$Player" (20 : Nat) "KioskReel$Frame") ∈ lw_all := lw_g (lw_at lw_m5 109 rfl) rfl
theorem q1113 : (Jvm.Cond.methodLink "KioskReel$Player" (22 : Nat) ({ cls := "KioskReel$Frame", name := "<init>", desc := "(LKioskReel$Playlist;)V" } : Jvm.MethodName)) ∈ lw_all := lw_g (lw_at lw_m5 111 rfl) rfl
theorem q1135 : (Jvm.Cond.interfaceEntry "KioskReel$Player" (25 : Nat)) ∈ lw_tbl := lw_at lw_m5 133 rfl
theorem q1136 : (Jvm.Cond.methodLink "KioskReel$Player" (25 : Nat) ({ cls := "java/util/List", name := "add", desc := "(Ljava/lang/Object;)Z" } : Jvm.MethodName)) ∈ lw_all := lw_g (lw_at lw_m5 134 rfl) rfl
theorem q1137 : (Jvm.Cond.fieldLink "KioskReel$Player" (16 : Nat) "KioskReel$Player" "home" "I") ∈ lw_all := lw_g (lw_at lw_m5 135 rfl) rfl
theorem q1139 : (Jvm.Cond.fieldLink "KioskReel$Player" (10 : Nat) "KioskReel$Player" "pile" "Ljava/util/List;") ∈ lw_all := lw_g (lw_at lw_m5 137 rfl) rfl
theorem q1152 : (Jvm.Cond.laysFinal "KioskReel$Player" "KioskReel$Player" "home" "I") ∈ lw_all := lw_g (lw_at lw_m5 150 rfl) rfl
theorem q1153 : (Jvm.Cond.soleField "KioskReel$Player" "home") ∈ lw_all := lw_g (lw_at lw_m5 151 rfl) rfl
theorem q1154 : (Jvm.Cond.laysFinal "KioskReel$Player" "KioskReel$Player" "pile" "Ljava/util/List;") ∈ lw_all := lw_g (lw_at lw_m5 152 rfl) rfl
theorem q1155 : (Jvm.Cond.soleField "KioskReel$Player" "pile") ∈ lw_all := lw_g (lw_at lw_m5 153 rfl) rfl
theorem q1156 : (Jvm.Cond.lays "KioskReel$Player" "KioskReel$Player" "at" "LKioskReel$Kiosk;") ∈ lw_all := lw_g (lw_at lw_m5 154 rfl) rfl
theorem q1157 : (Jvm.Cond.soleField "KioskReel$Player" "at") ∈ lw_all := lw_g (lw_at lw_m5 155 rfl) rfl
theorem q1158 : (Jvm.Cond.lays "KioskReel$Player" "KioskReel$Player" "count" "I") ∈ lw_all := lw_g (lw_at lw_m5 156 rfl) rfl
theorem q1159 : (Jvm.Cond.soleField "KioskReel$Player" "count") ∈ lw_all := lw_g (lw_at lw_m5 157 rfl) rfl
theorem q1160 : (Jvm.Cond.lays "KioskReel$Player" "KioskReel$Player" "wait" "I") ∈ lw_all := lw_g (lw_at lw_m5 158 rfl) rfl
theorem q1161 : (Jvm.Cond.soleField "KioskReel$Player" "wait") ∈ lw_all := lw_g (lw_at lw_m5 159 rfl) rfl
theorem q1162 : (Jvm.Cond.lays "KioskReel$Player" "KioskReel$Player" "isQueued" "Z") ∈ lw_all := lw_g (lw_at lw_m5 160 rfl) rfl
theorem q1163 : (Jvm.Cond.soleField "KioskReel$Player" "isQueued") ∈ lw_all := lw_g (lw_at lw_m5 161 rfl) rfl
theorem q1164 : (Jvm.Cond.superclass "KioskReel$Player" "java/lang/Object") ∈ lw_all := lw_g (lw_at lw_m5 162 rfl) rfl
theorem q1272 : (Jvm.Cond.instanceMethod ({ cls := "KioskReel$Player", name := "top", desc := "()LKioskReel$Frame;" } : Jvm.MethodName)) ∈ lw_all := lw_g (lw_at lw_m6 30 rfl) rfl
theorem q1273 : (Jvm.Cond.selects "KioskReel$Player" ({ cls := "KioskReel$Player", name := "top", desc := "()LKioskReel$Frame;" } : Jvm.MethodName) ({ cls := "KioskReel$Player", name := "top", desc := "()LKioskReel$Frame;" } : Jvm.MethodName)) ∈ lw_all := lw_g (lw_at lw_m6 31 rfl) rfl
theorem q1274 : (Jvm.Cond.code ({ cls := "KioskReel$Player", name := "top", desc := "()LKioskReel$Frame;" } : Jvm.MethodName) prog_13_method_2_code (1 : Nat) (Option.some (Jvm.ClassFile.FieldType.object "KioskReel$Frame"))) ∈ lw_all := lw_g (lw_at lw_m6 32 rfl) rfl
theorem q1275 : (Jvm.Cond.interfaceEntry "KioskReel$Player" (31 : Nat)) ∈ lw_tbl := lw_at lw_m6 33 rfl
theorem q1276 : (Jvm.Cond.methodLink "KioskReel$Player" (31 : Nat) ({ cls := "java/util/List", name := "size", desc := "()I" } : Jvm.MethodName)) ∈ lw_all := lw_g (lw_at lw_m6 34 rfl) rfl
theorem q1277 : (Jvm.Cond.interfaceEntry "KioskReel$Player" (35 : Nat)) ∈ lw_tbl := lw_at lw_m6 35 rfl
theorem q1278 : (Jvm.Cond.methodLink "KioskReel$Player" (35 : Nat) ({ cls := "java/util/List", name := "get", desc := "(I)Ljava/lang/Object;" } : Jvm.MethodName)) ∈ lw_all := lw_g (lw_at lw_m6 36 rfl) rfl
theorem q1911 : (Jvm.Cond.castable "KioskReel$Player" "java/lang/Object") ∈ lw_tbl := lw_at lw_m8 189 rfl
theorem in_X16 : ∀ w ∈ wsX160, w ∈ lw_all := lw_in wsX160 [1152, 1154, 1156, 1158, 1160, 1162] (by decide +kernel) (by decide +kernel)

/-! KioskReel$Frame -/
set_option maxRecDepth 100000
def RX17 : String := "KioskReel$Frame"
def TX17 : u_T := fun k => match k with
  | 0 => ("KioskReel$Frame", "list", "LKioskReel$Playlist;", true)
  | 1 => ("KioskReel$Frame", "lines", "[LKioskReel$Line;", true)
  | _ => ("KioskReel$Frame", "next", "I", false)
def tyX17 : Nat → FieldType := fun k => match k with
  | 0 => .object "KioskReel$Playlist"
  | 1 => .array (.object "KioskReel$Line")
  | _ => .int
abbrev wsX170 : List Cond := u_ws RX17 TX17 3
theorem nmX17 : ∀ a, a < 3 → ∀ b, b < 3 → a ≠ b → (TX17 a).2.1 ≠ (TX17 b).2.1 := by decide +kernel
theorem tyX17_ok : ∀ k, k < 3 → parseFieldDescriptor (TX17 k).2.2.1 = some (tyX17 k) := by decide +kernel
abbrev cX17_init : ByteArray := prog_4_method_1_code
def yX17_init : MethodName := ⟨RX17, "<init>", "(LKioskReel$Playlist;)V"⟩
def dkwX17_init_1 : List UInt8 := [180, 0, 13, 3, 42, 180, 0, 21, 3, 42, 180, 0, 21, 190, 184, 0, 24, 177]
abbrev dktX17_init_1 : List UInt8 := dkwX17_init_1 ++ []
def dkwX17_init_0 : List UInt8 := [42, 183, 0, 1, 42, 43, 181, 0, 7, 42, 43, 180, 0, 13, 190, 189, 0, 19, 181, 0, 21, 43]
abbrev dktX17_init_0 : List UInt8 := dkwX17_init_0 ++ dktX17_init_1
theorem dksX17_init_0 : cX17_init.data.toList.drop 0 = dktX17_init_0 := by decide +kernel
theorem dksX17_init_1 : cX17_init.data.toList.drop 22 = dktX17_init_1 := dk_seg dksX17_init_0 22 rfl rfl
theorem dX17_init_0 : decode cX17_init 0 = .ok (.aload_n 0, 1) := dk_42 (dk_at dksX17_init_0 0 rfl rfl)
theorem dX17_init_1 : decode cX17_init 1 = .ok (.invokespecial 1, 3) := dk_183 0 1 (dk_at dksX17_init_0 1 rfl rfl)
theorem dX17_init_4 : decode cX17_init 4 = .ok (.aload_n 0, 1) := dk_42 (dk_at dksX17_init_0 4 rfl rfl)
theorem dX17_init_5 : decode cX17_init 5 = .ok (.aload_n 1, 1) := dk_43 (dk_at dksX17_init_0 5 rfl rfl)
theorem dX17_init_6 : decode cX17_init 6 = .ok (.putfield 7, 3) := dk_181 0 7 (dk_at dksX17_init_0 6 rfl rfl)
theorem dX17_init_9 : decode cX17_init 9 = .ok (.aload_n 0, 1) := dk_42 (dk_at dksX17_init_0 9 rfl rfl)
theorem dX17_init_10 : decode cX17_init 10 = .ok (.aload_n 1, 1) := dk_43 (dk_at dksX17_init_0 10 rfl rfl)
theorem dX17_init_11 : decode cX17_init 11 = .ok (.getfield 13, 3) := dk_180 0 13 (dk_at dksX17_init_0 11 rfl rfl)
theorem dX17_init_14 : decode cX17_init 14 = .ok (.arraylength, 1) := dk_190 (dk_at dksX17_init_0 14 rfl rfl)
theorem dX17_init_15 : decode cX17_init 15 = .ok (.anewarray 19, 3) := dk_189 0 19 (dk_at dksX17_init_0 15 rfl rfl)
theorem dX17_init_18 : decode cX17_init 18 = .ok (.putfield 21, 3) := dk_181 0 21 (dk_at dksX17_init_0 18 rfl rfl)
theorem dX17_init_21 : decode cX17_init 21 = .ok (.aload_n 1, 1) := dk_43 (dk_at dksX17_init_0 21 rfl rfl)
theorem dX17_init_22 : decode cX17_init 22 = .ok (.getfield 13, 3) := dk_180 0 13 (dk_at dksX17_init_1 0 rfl rfl)
theorem dX17_init_25 : decode cX17_init 25 = .ok (.iconst 0, 1) := dk_3 (dk_at dksX17_init_1 3 rfl rfl)
theorem dX17_init_26 : decode cX17_init 26 = .ok (.aload_n 0, 1) := dk_42 (dk_at dksX17_init_1 4 rfl rfl)
theorem dX17_init_27 : decode cX17_init 27 = .ok (.getfield 21, 3) := dk_180 0 21 (dk_at dksX17_init_1 5 rfl rfl)
theorem dX17_init_30 : decode cX17_init 30 = .ok (.iconst 0, 1) := dk_3 (dk_at dksX17_init_1 8 rfl rfl)
theorem dX17_init_31 : decode cX17_init 31 = .ok (.aload_n 0, 1) := dk_42 (dk_at dksX17_init_1 9 rfl rfl)
theorem dX17_init_32 : decode cX17_init 32 = .ok (.getfield 21, 3) := dk_180 0 21 (dk_at dksX17_init_1 10 rfl rfl)
theorem dX17_init_35 : decode cX17_init 35 = .ok (.arraylength, 1) := dk_190 (dk_at dksX17_init_1 13 rfl rfl)
theorem dX17_init_36 : decode cX17_init 36 = .ok (.invokestatic 24, 3) := dk_184 0 24 (dk_at dksX17_init_1 14 rfl rfl)
theorem dX17_init_39 : decode cX17_init 39 = .ok (.return_, 1) := dk_177 (dk_at dksX17_init_1 17 rfl rfl)
abbrev cX17_isOver : ByteArray := prog_4_method_2_code
def yX17_isOver : MethodName := ⟨RX17, "isOver", "()Z"⟩
def dkwX17_isOver_0 : List UInt8 := [42, 180, 0, 30, 42, 180, 0, 21, 190, 161, 0, 7, 4, 167, 0, 4, 3, 172]
abbrev dktX17_isOver_0 : List UInt8 := dkwX17_isOver_0 ++ []
theorem dksX17_isOver_0 : cX17_isOver.data.toList.drop 0 = dktX17_isOver_0 := by decide +kernel
theorem dX17_isOver_0 : decode cX17_isOver 0 = .ok (.aload_n 0, 1) := dk_42 (dk_at dksX17_isOver_0 0 rfl rfl)
theorem dX17_isOver_1 : decode cX17_isOver 1 = .ok (.getfield 30, 3) := dk_180 0 30 (dk_at dksX17_isOver_0 1 rfl rfl)
theorem dX17_isOver_4 : decode cX17_isOver 4 = .ok (.aload_n 0, 1) := dk_42 (dk_at dksX17_isOver_0 4 rfl rfl)
theorem dX17_isOver_5 : decode cX17_isOver 5 = .ok (.getfield 21, 3) := dk_180 0 21 (dk_at dksX17_isOver_0 5 rfl rfl)
theorem dX17_isOver_8 : decode cX17_isOver 8 = .ok (.arraylength, 1) := dk_190 (dk_at dksX17_isOver_0 8 rfl rfl)
theorem dX17_isOver_9 : decode cX17_isOver 9 = .ok (.if_icmp .lt 7, 3) := dk_161 0 7 (dk_at dksX17_isOver_0 9 rfl rfl)
theorem dX17_isOver_12 : decode cX17_isOver 12 = .ok (.iconst 1, 1) := dk_4 (dk_at dksX17_isOver_0 12 rfl rfl)
theorem dX17_isOver_13 : decode cX17_isOver 13 = .ok (.goto 4, 3) := dk_167 0 4 (dk_at dksX17_isOver_0 13 rfl rfl)
theorem dX17_isOver_16 : decode cX17_isOver 16 = .ok (.iconst 0, 1) := dk_3 (dk_at dksX17_isOver_0 16 rfl rfl)
theorem dX17_isOver_17 : decode cX17_isOver 17 = .ok (.ireturn, 1) := dk_172 (dk_at dksX17_isOver_0 17 rfl rfl)
theorem q85 : (Jvm.Cond.initialized "KioskReel$Frame") ∈ lw_all := lw_g (lw_at lw_m1 43 rfl) rfl
theorem q184 : (Jvm.Cond.selects "KioskReel$Frame" ({ cls := "java/lang/Object", name := "getClass", desc := "()Ljava/lang/Class;" } : Jvm.MethodName) ({ cls := "java/lang/Object", name := "getClass", desc := "()Ljava/lang/Class;" } : Jvm.MethodName)) ∈ lw_all := lw_g (lw_at lw_m1 142 rfl) rfl
theorem q434 : (Jvm.Cond.selects "KioskReel$Frame" ({ cls := "java/lang/Object", name := "equals", desc := "(Ljava/lang/Object;)Z" } : Jvm.MethodName) ({ cls := "java/lang/Object", name := "equals", desc := "(Ljava/lang/Object;)Z" } : Jvm.MethodName)) ∈ lw_all := lw_g (lw_at lw_m2 152 rfl) rfl
theorem q516 : (Jvm.Cond.fieldLinkNest "KioskReel$Frame" (13 : Nat) "KioskReel$Playlist" "now" "[LKioskReel$Line;" "KioskReel") ∈ lw_tbl := lw_at lw_m2 234 rfl
theorem q1112 : (Jvm.Cond.instantiable "KioskReel$Frame" (3 : Nat)) ∈ lw_all := lw_g (lw_at lw_m5 110 rfl) rfl
theorem q1114 : (Jvm.Cond.instanceMethod ({ cls := "KioskReel$Frame", name := "<init>", desc := "(LKioskReel$Playlist;)V" } : Jvm.MethodName)) ∈ lw_all := lw_g (lw_at lw_m5 112 rfl) rfl
theorem q1115 : (Jvm.Cond.code ({ cls := "KioskReel$Frame", name := "<init>", desc := "(LKioskReel$Playlist;)V" } : Jvm.MethodName) prog_4_method_1_code (2 : Nat) (Option.none : Option Jvm.ClassFile.FieldType)) ∈ lw_all := lw_g (lw_at lw_m5 113 rfl) rfl
theorem q1116 : (Jvm.Cond.methodLink "KioskReel$Frame" (1 : Nat) ({ cls := "java/lang/Object", name := "<init>", desc := "()V" } : Jvm.MethodName)) ∈ lw_all := lw_g (lw_at lw_m5 114 rfl) rfl
theorem q1117 : (Jvm.Cond.classLink "KioskReel$Frame" (19 : Nat) "KioskReel$Line") ∈ lw_all := lw_g (lw_at lw_m5 115 rfl) rfl
theorem q1118 : (Jvm.Cond.methodLink "KioskReel$Frame" (24 : Nat) ({ cls := "java/lang/System", name := "arraycopy", desc := "(Ljava/lang/Object;ILjava/lang/Object;II)V" } : Jvm.MethodName)) ∈ lw_all := lw_g (lw_at lw_m5 116 rfl) rfl
theorem q1119 : (Jvm.Cond.fieldLink "KioskReel$Frame" (7 : Nat) "KioskReel$Frame" "list" "LKioskReel$Playlist;") ∈ lw_all := lw_g (lw_at lw_m5 117 rfl) rfl
theorem q1121 : (Jvm.Cond.fieldLink "KioskReel$Frame" (21 : Nat) "KioskReel$Frame" "lines" "[LKioskReel$Line;") ∈ lw_all := lw_g (lw_at lw_m5 119 rfl) rfl
theorem q1123 : (Jvm.Cond.fieldLink "KioskReel$Frame" (30 : Nat) "KioskReel$Frame" "next" "I") ∈ lw_all := lw_g (lw_at lw_m5 121 rfl) rfl
theorem q1128 : (Jvm.Cond.laysFinal "KioskReel$Frame" "KioskReel$Frame" "list" "LKioskReel$Playlist;") ∈ lw_all := lw_g (lw_at lw_m5 126 rfl) rfl
theorem q1129 : (Jvm.Cond.soleField "KioskReel$Frame" "list") ∈ lw_all := lw_g (lw_at lw_m5 127 rfl) rfl
theorem q1130 : (Jvm.Cond.laysFinal "KioskReel$Frame" "KioskReel$Frame" "lines" "[LKioskReel$Line;") ∈ lw_all := lw_g (lw_at lw_m5 128 rfl) rfl
theorem q1131 : (Jvm.Cond.soleField "KioskReel$Frame" "lines") ∈ lw_all := lw_g (lw_at lw_m5 129 rfl) rfl
theorem q1132 : (Jvm.Cond.lays "KioskReel$Frame" "KioskReel$Frame" "next" "I") ∈ lw_all := lw_g (lw_at lw_m5 130 rfl) rfl
theorem q1133 : (Jvm.Cond.soleField "KioskReel$Frame" "next") ∈ lw_all := lw_g (lw_at lw_m5 131 rfl) rfl
theorem q1134 : (Jvm.Cond.superclass "KioskReel$Frame" "java/lang/Object") ∈ lw_all := lw_g (lw_at lw_m5 132 rfl) rfl
theorem q1305 : (Jvm.Cond.instanceMethod ({ cls := "KioskReel$Frame", name := "isOver", desc := "()Z" } : Jvm.MethodName)) ∈ lw_all := lw_g (lw_at lw_m6 63 rfl) rfl
theorem q1306 : (Jvm.Cond.selects "KioskReel$Frame" ({ cls := "KioskReel$Frame", name := "isOver", desc := "()Z" } : Jvm.MethodName) ({ cls := "KioskReel$Frame", name := "isOver", desc := "()Z" } : Jvm.MethodName)) ∈ lw_all := lw_g (lw_at lw_m6 64 rfl) rfl
theorem q1307 : (Jvm.Cond.code ({ cls := "KioskReel$Frame", name := "isOver", desc := "()Z" } : Jvm.MethodName) prog_4_method_2_code (1 : Nat) (Option.some Jvm.ClassFile.FieldType.boolean)) ∈ lw_all := lw_g (lw_at lw_m6 65 rfl) rfl
theorem q1912 : (Jvm.Cond.castable "KioskReel$Frame" "java/lang/Object") ∈ lw_tbl := lw_at lw_m8 190 rfl
theorem in_X17 : ∀ w ∈ wsX170, w ∈ lw_all := lw_in wsX170 [1128, 1130, 1132] (by decide +kernel) (by decide +kernel)

/-! KioskReel$Visitor -/
set_option maxRecDepth 100000
def RX18 : String := "KioskReel$Visitor"
def TX18 : u_T := fun k => match k with
  | 0 => ("KioskReel$Visitor", "saw", "[I", true)
  | 1 => ("KioskReel$Visitor", "asks", "[I", true)
  | 2 => ("KioskReel$Visitor", "asked", "[Z", true)
  | _ => ("KioskReel$Visitor", "at", "LKioskReel$Kiosk;", false)
def tyX18 : Nat → FieldType := fun k => match k with
  | 0 => .array .int
  | 1 => .array .int
  | 2 => .array .boolean
  | _ => .object "KioskReel$Kiosk"
abbrev wsX180 : List Cond := u_ws RX18 TX18 4
theorem nmX18 : ∀ a, a < 4 → ∀ b, b < 4 → a ≠ b → (TX18 a).2.1 ≠ (TX18 b).2.1 := by decide +kernel
theorem tyX18_ok : ∀ k, k < 4 → parseFieldDescriptor (TX18 k).2.2.1 = some (tyX18 k) := by decide +kernel
abbrev cX18_wouldSee : ByteArray := prog_18_method_2_code
def yX18_wouldSee : MethodName := ⟨RX18, "wouldSee", "(I)Z"⟩
def dkwX18_wouldSee_0 : List UInt8 := [42, 180, 0, 9, 27, 46, 153, 0, 12, 42, 180, 0, 18, 27, 51, 153, 0, 7, 4, 167, 0, 4, 3, 172]
abbrev dktX18_wouldSee_0 : List UInt8 := dkwX18_wouldSee_0 ++ []
theorem dksX18_wouldSee_0 : cX18_wouldSee.data.toList.drop 0 = dktX18_wouldSee_0 := by decide +kernel
theorem dX18_wouldSee_0 : decode cX18_wouldSee 0 = .ok (.aload_n 0, 1) := dk_42 (dk_at dksX18_wouldSee_0 0 rfl rfl)
theorem dX18_wouldSee_1 : decode cX18_wouldSee 1 = .ok (.getfield 9, 3) := dk_180 0 9 (dk_at dksX18_wouldSee_0 1 rfl rfl)
theorem dX18_wouldSee_4 : decode cX18_wouldSee 4 = .ok (.iload_n 1, 1) := dk_27 (dk_at dksX18_wouldSee_0 4 rfl rfl)
theorem dX18_wouldSee_5 : decode cX18_wouldSee 5 = .ok (.iaload, 1) := dk_46 (dk_at dksX18_wouldSee_0 5 rfl rfl)
theorem dX18_wouldSee_6 : decode cX18_wouldSee 6 = .ok (.ifCond .eq 12, 3) := dk_153 0 12 (dk_at dksX18_wouldSee_0 6 rfl rfl)
theorem dX18_wouldSee_9 : decode cX18_wouldSee 9 = .ok (.aload_n 0, 1) := dk_42 (dk_at dksX18_wouldSee_0 9 rfl rfl)
theorem dX18_wouldSee_10 : decode cX18_wouldSee 10 = .ok (.getfield 18, 3) := dk_180 0 18 (dk_at dksX18_wouldSee_0 10 rfl rfl)
theorem dX18_wouldSee_13 : decode cX18_wouldSee 13 = .ok (.iload_n 1, 1) := dk_27 (dk_at dksX18_wouldSee_0 13 rfl rfl)
theorem dX18_wouldSee_14 : decode cX18_wouldSee 14 = .ok (.baload, 1) := dk_51 (dk_at dksX18_wouldSee_0 14 rfl rfl)
theorem dX18_wouldSee_15 : decode cX18_wouldSee 15 = .ok (.ifCond .eq 7, 3) := dk_153 0 7 (dk_at dksX18_wouldSee_0 15 rfl rfl)
theorem dX18_wouldSee_18 : decode cX18_wouldSee 18 = .ok (.iconst 1, 1) := dk_4 (dk_at dksX18_wouldSee_0 18 rfl rfl)
theorem dX18_wouldSee_19 : decode cX18_wouldSee 19 = .ok (.goto 4, 3) := dk_167 0 4 (dk_at dksX18_wouldSee_0 19 rfl rfl)
theorem dX18_wouldSee_22 : decode cX18_wouldSee 22 = .ok (.iconst 0, 1) := dk_3 (dk_at dksX18_wouldSee_0 22 rfl rfl)
theorem dX18_wouldSee_23 : decode cX18_wouldSee 23 = .ok (.ireturn, 1) := dk_172 (dk_at dksX18_wouldSee_0 23 rfl rfl)
abbrev cX18_see : ByteArray := prog_18_method_3_code
def yX18_see : MethodName := ⟨RX18, "see", "(I)V"⟩
def dkwX18_see_0 : List UInt8 := [42, 180, 0, 9, 27, 92, 46, 4, 96, 79, 42, 180, 0, 18, 27, 3, 84, 177]
abbrev dktX18_see_0 : List UInt8 := dkwX18_see_0 ++ []
theorem dksX18_see_0 : cX18_see.data.toList.drop 0 = dktX18_see_0 := by decide +kernel
theorem dX18_see_0 : decode cX18_see 0 = .ok (.aload_n 0, 1) := dk_42 (dk_at dksX18_see_0 0 rfl rfl)
theorem dX18_see_1 : decode cX18_see 1 = .ok (.getfield 9, 3) := dk_180 0 9 (dk_at dksX18_see_0 1 rfl rfl)
theorem dX18_see_4 : decode cX18_see 4 = .ok (.iload_n 1, 1) := dk_27 (dk_at dksX18_see_0 4 rfl rfl)
theorem dX18_see_5 : decode cX18_see 5 = .ok (.dup2, 1) := dk_92 (dk_at dksX18_see_0 5 rfl rfl)
theorem dX18_see_6 : decode cX18_see 6 = .ok (.iaload, 1) := dk_46 (dk_at dksX18_see_0 6 rfl rfl)
theorem dX18_see_7 : decode cX18_see 7 = .ok (.iconst 1, 1) := dk_4 (dk_at dksX18_see_0 7 rfl rfl)
theorem dX18_see_8 : decode cX18_see 8 = .ok (.iadd, 1) := dk_96 (dk_at dksX18_see_0 8 rfl rfl)
theorem dX18_see_9 : decode cX18_see 9 = .ok (.iastore, 1) := dk_79 (dk_at dksX18_see_0 9 rfl rfl)
theorem dX18_see_10 : decode cX18_see 10 = .ok (.aload_n 0, 1) := dk_42 (dk_at dksX18_see_0 10 rfl rfl)
theorem dX18_see_11 : decode cX18_see 11 = .ok (.getfield 18, 3) := dk_180 0 18 (dk_at dksX18_see_0 11 rfl rfl)
theorem dX18_see_14 : decode cX18_see 14 = .ok (.iload_n 1, 1) := dk_27 (dk_at dksX18_see_0 14 rfl rfl)
theorem dX18_see_15 : decode cX18_see 15 = .ok (.iconst 0, 1) := dk_3 (dk_at dksX18_see_0 15 rfl rfl)
theorem dX18_see_16 : decode cX18_see 16 = .ok (.bastore, 1) := dk_84 (dk_at dksX18_see_0 16 rfl rfl)
theorem dX18_see_17 : decode cX18_see 17 = .ok (.return_, 1) := dk_177 (dk_at dksX18_see_0 17 rfl rfl)
abbrev cX18_init : ByteArray := prog_18_method_1_code
def yX18_init : MethodName := ⟨RX18, "<init>", "()V"⟩
def dkwX18_init_1 : List UInt8 := [188, 4, 181, 0, 18, 177]
abbrev dktX18_init_1 : List UInt8 := dkwX18_init_1 ++ []
def dkwX18_init_0 : List UInt8 := [42, 183, 0, 3, 42, 16, 100, 188, 10, 181, 0, 9, 42, 16, 100, 188, 10, 181, 0, 15, 42, 16, 100]
abbrev dktX18_init_0 : List UInt8 := dkwX18_init_0 ++ dktX18_init_1
theorem dksX18_init_0 : cX18_init.data.toList.drop 0 = dktX18_init_0 := by decide +kernel
theorem dksX18_init_1 : cX18_init.data.toList.drop 23 = dktX18_init_1 := dk_seg dksX18_init_0 23 rfl rfl
theorem dX18_init_0 : decode cX18_init 0 = .ok (.aload_n 0, 1) := dk_42 (dk_at dksX18_init_0 0 rfl rfl)
theorem dX18_init_1 : decode cX18_init 1 = .ok (.invokespecial 3, 3) := dk_183 0 3 (dk_at dksX18_init_0 1 rfl rfl)
theorem dX18_init_4 : decode cX18_init 4 = .ok (.aload_n 0, 1) := dk_42 (dk_at dksX18_init_0 4 rfl rfl)
theorem dX18_init_5 : decode cX18_init 5 = .ok (.bipush 100, 2) := dk_16 100 (dk_at dksX18_init_0 5 rfl rfl)
theorem dX18_init_7 : decode cX18_init 7 = .ok (.newarray .int, 2) := dk_188_10 (dk_at dksX18_init_0 7 rfl rfl)
theorem dX18_init_9 : decode cX18_init 9 = .ok (.putfield 9, 3) := dk_181 0 9 (dk_at dksX18_init_0 9 rfl rfl)
theorem dX18_init_12 : decode cX18_init 12 = .ok (.aload_n 0, 1) := dk_42 (dk_at dksX18_init_0 12 rfl rfl)
theorem dX18_init_13 : decode cX18_init 13 = .ok (.bipush 100, 2) := dk_16 100 (dk_at dksX18_init_0 13 rfl rfl)
theorem dX18_init_15 : decode cX18_init 15 = .ok (.newarray .int, 2) := dk_188_10 (dk_at dksX18_init_0 15 rfl rfl)
theorem dX18_init_17 : decode cX18_init 17 = .ok (.putfield 15, 3) := dk_181 0 15 (dk_at dksX18_init_0 17 rfl rfl)
theorem dX18_init_20 : decode cX18_init 20 = .ok (.aload_n 0, 1) := dk_42 (dk_at dksX18_init_0 20 rfl rfl)
theorem dX18_init_21 : decode cX18_init 21 = .ok (.bipush 100, 2) := dk_16 100 (dk_at dksX18_init_0 21 rfl rfl)
theorem dX18_init_23 : decode cX18_init 23 = .ok (.newarray .boolean, 2) := dk_188_4 (dk_at dksX18_init_1 0 rfl rfl)
theorem dX18_init_25 : decode cX18_init 25 = .ok (.putfield 18, 3) := dk_181 0 18 (dk_at dksX18_init_1 2 rfl rfl)
theorem dX18_init_28 : decode cX18_init 28 = .ok (.return_, 1) := dk_177 (dk_at dksX18_init_1 5 rfl rfl)
theorem q86 : (Jvm.Cond.initialized "KioskReel$Visitor") ∈ lw_all := lw_g (lw_at lw_m1 44 rfl) rfl
theorem q197 : (Jvm.Cond.selects "KioskReel$Visitor" ({ cls := "java/lang/Object", name := "getClass", desc := "()Ljava/lang/Class;" } : Jvm.MethodName) ({ cls := "java/lang/Object", name := "getClass", desc := "()Ljava/lang/Class;" } : Jvm.MethodName)) ∈ lw_all := lw_g (lw_at lw_m1 155 rfl) rfl
theorem q447 : (Jvm.Cond.selects "KioskReel$Visitor" ({ cls := "java/lang/Object", name := "equals", desc := "(Ljava/lang/Object;)Z" } : Jvm.MethodName) ({ cls := "java/lang/Object", name := "equals", desc := "(Ljava/lang/Object;)Z" } : Jvm.MethodName)) ∈ lw_all := lw_g (lw_at lw_m2 165 rfl) rfl
theorem q1382 : (Jvm.Cond.instanceMethod ({ cls := "KioskReel$Visitor", name := "wouldSee", desc := "(I)Z" } : Jvm.MethodName)) ∈ lw_all := lw_g (lw_at lw_m6 140 rfl) rfl
theorem q1383 : (Jvm.Cond.selects "KioskReel$Visitor" ({ cls := "KioskReel$Visitor", name := "wouldSee", desc := "(I)Z" } : Jvm.MethodName) ({ cls := "KioskReel$Visitor", name := "wouldSee", desc := "(I)Z" } : Jvm.MethodName)) ∈ lw_all := lw_g (lw_at lw_m6 141 rfl) rfl
theorem q1384 : (Jvm.Cond.code ({ cls := "KioskReel$Visitor", name := "wouldSee", desc := "(I)Z" } : Jvm.MethodName) prog_18_method_2_code (2 : Nat) (Option.some Jvm.ClassFile.FieldType.boolean)) ∈ lw_all := lw_g (lw_at lw_m6 142 rfl) rfl
theorem q1386 : (Jvm.Cond.instanceMethod ({ cls := "KioskReel$Visitor", name := "see", desc := "(I)V" } : Jvm.MethodName)) ∈ lw_all := lw_g (lw_at lw_m6 144 rfl) rfl
theorem q1387 : (Jvm.Cond.selects "KioskReel$Visitor" ({ cls := "KioskReel$Visitor", name := "see", desc := "(I)V" } : Jvm.MethodName) ({ cls := "KioskReel$Visitor", name := "see", desc := "(I)V" } : Jvm.MethodName)) ∈ lw_all := lw_g (lw_at lw_m6 145 rfl) rfl
theorem q1388 : (Jvm.Cond.code ({ cls := "KioskReel$Visitor", name := "see", desc := "(I)V" } : Jvm.MethodName) prog_18_method_3_code (2 : Nat) (Option.none : Option Jvm.ClassFile.FieldType)) ∈ lw_all := lw_g (lw_at lw_m6 146 rfl) rfl
theorem q1470 : (Jvm.Cond.instantiable "KioskReel$Visitor" (4 : Nat)) ∈ lw_all := lw_g (lw_at lw_m6 228 rfl) rfl
theorem q1472 : (Jvm.Cond.instanceMethod ({ cls := "KioskReel$Visitor", name := "<init>", desc := "()V" } : Jvm.MethodName)) ∈ lw_all := lw_g (lw_at lw_m6 230 rfl) rfl
theorem q1473 : (Jvm.Cond.code ({ cls := "KioskReel$Visitor", name := "<init>", desc := "()V" } : Jvm.MethodName) prog_18_method_1_code (1 : Nat) (Option.none : Option Jvm.ClassFile.FieldType)) ∈ lw_all := lw_g (lw_at lw_m6 231 rfl) rfl
theorem q1474 : (Jvm.Cond.methodLink "KioskReel$Visitor" (3 : Nat) ({ cls := "java/lang/Object", name := "<init>", desc := "()V" } : Jvm.MethodName)) ∈ lw_all := lw_g (lw_at lw_m6 232 rfl) rfl
theorem q1475 : (Jvm.Cond.fieldLink "KioskReel$Visitor" (9 : Nat) "KioskReel$Visitor" "saw" "[I") ∈ lw_all := lw_g (lw_at lw_m6 233 rfl) rfl
theorem q1477 : (Jvm.Cond.fieldLink "KioskReel$Visitor" (15 : Nat) "KioskReel$Visitor" "asks" "[I") ∈ lw_all := lw_g (lw_at lw_m6 235 rfl) rfl
theorem q1479 : (Jvm.Cond.fieldLink "KioskReel$Visitor" (18 : Nat) "KioskReel$Visitor" "asked" "[Z") ∈ lw_all := lw_g (lw_at lw_m6 237 rfl) rfl
theorem q1483 : (Jvm.Cond.laysFinal "KioskReel$Visitor" "KioskReel$Visitor" "saw" "[I") ∈ lw_all := lw_g (lw_at lw_m7 1 rfl) rfl
theorem q1484 : (Jvm.Cond.soleField "KioskReel$Visitor" "saw") ∈ lw_all := lw_g (lw_at lw_m7 2 rfl) rfl
theorem q1485 : (Jvm.Cond.laysFinal "KioskReel$Visitor" "KioskReel$Visitor" "asks" "[I") ∈ lw_all := lw_g (lw_at lw_m7 3 rfl) rfl
theorem q1486 : (Jvm.Cond.soleField "KioskReel$Visitor" "asks") ∈ lw_all := lw_g (lw_at lw_m7 4 rfl) rfl
theorem q1487 : (Jvm.Cond.laysFinal "KioskReel$Visitor" "KioskReel$Visitor" "asked" "[Z") ∈ lw_all := lw_g (lw_at lw_m7 5 rfl) rfl
theorem q1488 : (Jvm.Cond.soleField "KioskReel$Visitor" "asked") ∈ lw_all := lw_g (lw_at lw_m7 6 rfl) rfl
theorem q1489 : (Jvm.Cond.lays "KioskReel$Visitor" "KioskReel$Visitor" "at" "LKioskReel$Kiosk;") ∈ lw_all := lw_g (lw_at lw_m7 7 rfl) rfl
theorem q1490 : (Jvm.Cond.soleField "KioskReel$Visitor" "at") ∈ lw_all := lw_g (lw_at lw_m7 8 rfl) rfl
theorem q1491 : (Jvm.Cond.superclass "KioskReel$Visitor" "java/lang/Object") ∈ lw_all := lw_g (lw_at lw_m7 9 rfl) rfl
theorem q1913 : (Jvm.Cond.castable "KioskReel$Visitor" "java/lang/Object") ∈ lw_tbl := lw_at lw_m8 191 rfl
theorem in_X18 : ∀ w ∈ wsX180, w ∈ lw_all := lw_in wsX180 [1483, 1485, 1487, 1489] (by decide +kernel) (by decide +kernel)
