/-! KioskReelModel -/
set_option maxRecDepth 100000
def RX3 : String := "KioskReelModel"
def TX3 : u_T := fun k => match k with
  | 0 => ("KioskReelModel", "many", "[I", true)
  | 1 => ("KioskReelModel", "kind", "[I", true)
  | 2 => ("KioskReelModel", "number", "[I", true)
  | 3 => ("KioskReelModel", "pileMany", "[I", true)
  | 4 => ("KioskReelModel", "pileKind", "[I", true)
  | 5 => ("KioskReelModel", "pileNumber", "[I", true)
  | 6 => ("KioskReelModel", "pileList", "[I", true)
  | 7 => ("KioskReelModel", "pileNext", "[I", true)
  | 8 => ("KioskReelModel", "hasPlayer", "[Z", true)
  | 9 => ("KioskReelModel", "isFrozen", "[Z", true)
  | 10 => ("KioskReelModel", "isOut", "[Z", true)
  | 11 => ("KioskReelModel", "depth", "[I", true)
  | 12 => ("KioskReelModel", "at", "[I", true)
  | 13 => ("KioskReelModel", "counts", "[I", true)
  | 14 => ("KioskReelModel", "ticks", "[I", true)
  | 15 => ("KioskReelModel", "wanted", "[I", true)
  | 16 => ("KioskReelModel", "frozenFor", "[I", true)
  | 17 => ("KioskReelModel", "slide", "[I", true)
  | 18 => ("KioskReelModel", "playing", "[I", true)
  | 19 => ("KioskReelModel", "playingMany", "[I", true)
  | 20 => ("KioskReelModel", "holder", "[I", true)
  | 21 => ("KioskReelModel", "queue", "[I", true)
  | 22 => ("KioskReelModel", "queueMany", "[I", true)
  | 23 => ("KioskReelModel", "saw", "[I", true)
  | 24 => ("KioskReelModel", "place", "[I", true)
  | 25 => ("KioskReelModel", "asked", "[Z", true)
  | 26 => ("KioskReelModel", "lists", "I", false)
  | 27 => ("KioskReelModel", "kiosks", "I", false)
  | 28 => ("KioskReelModel", "visitors", "I", false)
  | 29 => ("KioskReelModel", "shown", "I", false)
  | 30 => ("KioskReelModel", "thrown", "I", false)
  | _ => ("KioskReelModel", "done", "J", false)
def tyX3 : Nat → FieldType := fun k => match k with
  | 0 => .array .int
  | 1 => .array .int
  | 2 => .array .int
  | 3 => .array .int
  | 4 => .array .int
  | 5 => .array .int
  | 6 => .array .int
  | 7 => .array .int
  | 8 => .array .boolean
  | 9 => .array .boolean
  | 10 => .array .boolean
  | 11 => .array .int
  | 12 => .array .int
  | 13 => .array .int
  | 14 => .array .int
  | 15 => .array .int
  | 16 => .array .int
  | 17 => .array .int
  | 18 => .array .int
  | 19 => .array .int
  | 20 => .array .int
  | 21 => .array .int
  | 22 => .array .int
  | 23 => .array .int
  | 24 => .array .int
  | 25 => .array .boolean
  | 26 => .int
  | 27 => .int
  | 28 => .int
  | 29 => .int
  | 30 => .int
  | _ => .long
abbrev wsX30 : List Cond := u_ws RX3 TX3 32
set_option maxRecDepth 100000 in
theorem nmX3 : ∀ a, a < 32 → ∀ b, b < 32 → a ≠ b → (TX3 a).2.1 ≠ (TX3 b).2.1 := by decide +kernel
set_option maxRecDepth 100000 in
theorem tyX3_ok : ∀ k, k < 32 → parseFieldDescriptor (TX3 k).2.2.1 = some (tyX3 k) := by decide +kernel
abbrev cX3_init : ByteArray := prog_21_method_1_code
def yX3_init : MethodName := ⟨RX3, "<init>", "()V"⟩
def dkwX3_init_12 : List UInt8 := [177]
abbrev dktX3_init_12 : List UInt8 := dkwX3_init_12 ++ []
def dkwX3_init_11 : List UInt8 := [167, 255, 219, 3, 60, 27, 16, 10, 162, 0, 16, 42, 180, 0, 83, 27, 2, 79, 132, 1, 1, 167, 255, 240]
abbrev dktX3_init_11 : List UInt8 := dkwX3_init_11 ++ dktX3_init_12
def dkwX3_init_10 : List UInt8 := [180, 0, 56, 27, 2, 79, 42, 180, 0, 62, 27, 2, 79, 42, 180, 0, 71, 27, 2, 79, 132, 1, 1]
abbrev dktX3_init_10 : List UInt8 := dkwX3_init_10 ++ dktX3_init_11
def dkwX3_init_9 : List UInt8 := [17, 3, 232, 188, 4, 181, 0, 86, 3, 60, 27, 16, 6, 162, 0, 37, 42, 180, 0, 47, 27, 2, 79, 42]
abbrev dktX3_init_9 : List UInt8 := dkwX3_init_9 ++ dktX3_init_10
def dkwX3_init_8 : List UInt8 := [188, 10, 181, 0, 77, 42, 17, 3, 232, 188, 10, 181, 0, 80, 42, 16, 10, 188, 10, 181, 0, 83, 42]
abbrev dktX3_init_8 : List UInt8 := dkwX3_init_8 ++ dktX3_init_9
def dkwX3_init_7 : List UInt8 := [188, 10, 181, 0, 68, 42, 16, 6, 188, 10, 181, 0, 71, 42, 16, 36, 188, 10, 181, 0, 74, 42, 16, 6]
abbrev dktX3_init_7 : List UInt8 := dkwX3_init_7 ++ dktX3_init_8
def dkwX3_init_6 : List UInt8 := [188, 10, 181, 0, 59, 42, 16, 6, 188, 10, 181, 0, 62, 42, 16, 36, 188, 10, 181, 0, 65, 42, 16, 6]
abbrev dktX3_init_6 : List UInt8 := dkwX3_init_6 ++ dktX3_init_7
def dkwX3_init_5 : List UInt8 := [188, 10, 181, 0, 50, 42, 16, 6, 188, 10, 181, 0, 53, 42, 16, 6, 188, 10, 181, 0, 56, 42, 16, 6]
abbrev dktX3_init_5 : List UInt8 := dkwX3_init_5 ++ dktX3_init_6
def dkwX3_init_4 : List UInt8 := [188, 4, 181, 0, 41, 42, 16, 6, 188, 10, 181, 0, 44, 42, 16, 6, 188, 10, 181, 0, 47, 42, 16, 6]
abbrev dktX3_init_4 : List UInt8 := dkwX3_init_4 ++ dktX3_init_5
def dkwX3_init_3 : List UInt8 := [188, 10, 181, 0, 31, 42, 16, 6, 188, 4, 181, 0, 34, 42, 16, 6, 188, 4, 181, 0, 38, 42, 16, 6]
abbrev dktX3_init_3 : List UInt8 := dkwX3_init_3 ++ dktX3_init_4
def dkwX3_init_2 : List UInt8 := [181, 0, 22, 42, 17, 1, 224, 188, 10, 181, 0, 25, 42, 16, 24, 188, 10, 181, 0, 28, 42, 16, 24]
abbrev dktX3_init_2 : List UInt8 := dkwX3_init_2 ++ dktX3_init_3
def dkwX3_init_1 : List UInt8 := [17, 0, 160, 188, 10, 181, 0, 16, 42, 16, 24, 188, 10, 181, 0, 19, 42, 17, 1, 224, 188, 10]
abbrev dktX3_init_1 : List UInt8 := dkwX3_init_1 ++ dktX3_init_2
def dkwX3_init_0 : List UInt8 := [42, 183, 0, 1, 42, 16, 8, 188, 10, 181, 0, 7, 42, 17, 0, 160, 188, 10, 181, 0, 13, 42]
abbrev dktX3_init_0 : List UInt8 := dkwX3_init_0 ++ dktX3_init_1
theorem dksX3_init_0 : cX3_init.data.toList.drop 0 = dktX3_init_0 := by decide +kernel
theorem dksX3_init_1 : cX3_init.data.toList.drop 22 = dktX3_init_1 := dk_seg dksX3_init_0 22 rfl rfl
theorem dksX3_init_2 : cX3_init.data.toList.drop 44 = dktX3_init_2 := dk_seg dksX3_init_1 22 rfl rfl
theorem dksX3_init_3 : cX3_init.data.toList.drop 67 = dktX3_init_3 := dk_seg dksX3_init_2 23 rfl rfl
theorem dksX3_init_4 : cX3_init.data.toList.drop 91 = dktX3_init_4 := dk_seg dksX3_init_3 24 rfl rfl
theorem dksX3_init_5 : cX3_init.data.toList.drop 115 = dktX3_init_5 := dk_seg dksX3_init_4 24 rfl rfl
theorem dksX3_init_6 : cX3_init.data.toList.drop 139 = dktX3_init_6 := dk_seg dksX3_init_5 24 rfl rfl
theorem dksX3_init_7 : cX3_init.data.toList.drop 163 = dktX3_init_7 := dk_seg dksX3_init_6 24 rfl rfl
theorem dksX3_init_8 : cX3_init.data.toList.drop 187 = dktX3_init_8 := dk_seg dksX3_init_7 24 rfl rfl
theorem dksX3_init_9 : cX3_init.data.toList.drop 210 = dktX3_init_9 := dk_seg dksX3_init_8 23 rfl rfl
theorem dksX3_init_10 : cX3_init.data.toList.drop 234 = dktX3_init_10 := dk_seg dksX3_init_9 24 rfl rfl
theorem dksX3_init_11 : cX3_init.data.toList.drop 257 = dktX3_init_11 := dk_seg dksX3_init_10 23 rfl rfl
theorem dksX3_init_12 : cX3_init.data.toList.drop 281 = dktX3_init_12 := dk_seg dksX3_init_11 24 rfl rfl
theorem dX3_init_0 : decode cX3_init 0 = .ok (.aload_n 0, 1) := dk_42 (dk_at dksX3_init_0 0 rfl rfl)
theorem dX3_init_1 : decode cX3_init 1 = .ok (.invokespecial 1, 3) := dk_183 0 1 (dk_at dksX3_init_0 1 rfl rfl)
theorem dX3_init_4 : decode cX3_init 4 = .ok (.aload_n 0, 1) := dk_42 (dk_at dksX3_init_0 4 rfl rfl)
theorem dX3_init_5 : decode cX3_init 5 = .ok (.bipush 8, 2) := dk_16 8 (dk_at dksX3_init_0 5 rfl rfl)
theorem dX3_init_7 : decode cX3_init 7 = .ok (.newarray .int, 2) := dk_188_10 (dk_at dksX3_init_0 7 rfl rfl)
theorem dX3_init_9 : decode cX3_init 9 = .ok (.putfield 7, 3) := dk_181 0 7 (dk_at dksX3_init_0 9 rfl rfl)
theorem dX3_init_12 : decode cX3_init 12 = .ok (.aload_n 0, 1) := dk_42 (dk_at dksX3_init_0 12 rfl rfl)
theorem dX3_init_13 : decode cX3_init 13 = .ok (.sipush 160, 3) := dk_17 0 160 (dk_at dksX3_init_0 13 rfl rfl)
theorem dX3_init_16 : decode cX3_init 16 = .ok (.newarray .int, 2) := dk_188_10 (dk_at dksX3_init_0 16 rfl rfl)
theorem dX3_init_18 : decode cX3_init 18 = .ok (.putfield 13, 3) := dk_181 0 13 (dk_at dksX3_init_0 18 rfl rfl)
theorem dX3_init_21 : decode cX3_init 21 = .ok (.aload_n 0, 1) := dk_42 (dk_at dksX3_init_0 21 rfl rfl)
theorem dX3_init_22 : decode cX3_init 22 = .ok (.sipush 160, 3) := dk_17 0 160 (dk_at dksX3_init_1 0 rfl rfl)
theorem dX3_init_25 : decode cX3_init 25 = .ok (.newarray .int, 2) := dk_188_10 (dk_at dksX3_init_1 3 rfl rfl)
theorem dX3_init_27 : decode cX3_init 27 = .ok (.putfield 16, 3) := dk_181 0 16 (dk_at dksX3_init_1 5 rfl rfl)
theorem dX3_init_30 : decode cX3_init 30 = .ok (.aload_n 0, 1) := dk_42 (dk_at dksX3_init_1 8 rfl rfl)
theorem dX3_init_31 : decode cX3_init 31 = .ok (.bipush 24, 2) := dk_16 24 (dk_at dksX3_init_1 9 rfl rfl)
theorem dX3_init_33 : decode cX3_init 33 = .ok (.newarray .int, 2) := dk_188_10 (dk_at dksX3_init_1 11 rfl rfl)
theorem dX3_init_35 : decode cX3_init 35 = .ok (.putfield 19, 3) := dk_181 0 19 (dk_at dksX3_init_1 13 rfl rfl)
theorem dX3_init_38 : decode cX3_init 38 = .ok (.aload_n 0, 1) := dk_42 (dk_at dksX3_init_1 16 rfl rfl)
theorem dX3_init_39 : decode cX3_init 39 = .ok (.sipush 480, 3) := dk_17 1 224 (dk_at dksX3_init_1 17 rfl rfl)
theorem dX3_init_42 : decode cX3_init 42 = .ok (.newarray .int, 2) := dk_188_10 (dk_at dksX3_init_1 20 rfl rfl)
theorem dX3_init_44 : decode cX3_init 44 = .ok (.putfield 22, 3) := dk_181 0 22 (dk_at dksX3_init_2 0 rfl rfl)
theorem dX3_init_47 : decode cX3_init 47 = .ok (.aload_n 0, 1) := dk_42 (dk_at dksX3_init_2 3 rfl rfl)
theorem dX3_init_48 : decode cX3_init 48 = .ok (.sipush 480, 3) := dk_17 1 224 (dk_at dksX3_init_2 4 rfl rfl)
theorem dX3_init_51 : decode cX3_init 51 = .ok (.newarray .int, 2) := dk_188_10 (dk_at dksX3_init_2 7 rfl rfl)
theorem dX3_init_53 : decode cX3_init 53 = .ok (.putfield 25, 3) := dk_181 0 25 (dk_at dksX3_init_2 9 rfl rfl)
theorem dX3_init_56 : decode cX3_init 56 = .ok (.aload_n 0, 1) := dk_42 (dk_at dksX3_init_2 12 rfl rfl)
theorem dX3_init_57 : decode cX3_init 57 = .ok (.bipush 24, 2) := dk_16 24 (dk_at dksX3_init_2 13 rfl rfl)
theorem dX3_init_59 : decode cX3_init 59 = .ok (.newarray .int, 2) := dk_188_10 (dk_at dksX3_init_2 15 rfl rfl)
theorem dX3_init_61 : decode cX3_init 61 = .ok (.putfield 28, 3) := dk_181 0 28 (dk_at dksX3_init_2 17 rfl rfl)
theorem dX3_init_64 : decode cX3_init 64 = .ok (.aload_n 0, 1) := dk_42 (dk_at dksX3_init_2 20 rfl rfl)
theorem dX3_init_65 : decode cX3_init 65 = .ok (.bipush 24, 2) := dk_16 24 (dk_at dksX3_init_2 21 rfl rfl)
theorem dX3_init_67 : decode cX3_init 67 = .ok (.newarray .int, 2) := dk_188_10 (dk_at dksX3_init_3 0 rfl rfl)
theorem dX3_init_69 : decode cX3_init 69 = .ok (.putfield 31, 3) := dk_181 0 31 (dk_at dksX3_init_3 2 rfl rfl)
theorem dX3_init_72 : decode cX3_init 72 = .ok (.aload_n 0, 1) := dk_42 (dk_at dksX3_init_3 5 rfl rfl)
theorem dX3_init_73 : decode cX3_init 73 = .ok (.bipush 6, 2) := dk_16 6 (dk_at dksX3_init_3 6 rfl rfl)
theorem dX3_init_75 : decode cX3_init 75 = .ok (.newarray .boolean, 2) := dk_188_4 (dk_at dksX3_init_3 8 rfl rfl)
theorem dX3_init_77 : decode cX3_init 77 = .ok (.putfield 34, 3) := dk_181 0 34 (dk_at dksX3_init_3 10 rfl rfl)
theorem dX3_init_80 : decode cX3_init 80 = .ok (.aload_n 0, 1) := dk_42 (dk_at dksX3_init_3 13 rfl rfl)
theorem dX3_init_81 : decode cX3_init 81 = .ok (.bipush 6, 2) := dk_16 6 (dk_at dksX3_init_3 14 rfl rfl)
theorem dX3_init_83 : decode cX3_init 83 = .ok (.newarray .boolean, 2) := dk_188_4 (dk_at dksX3_init_3 16 rfl rfl)
theorem dX3_init_85 : decode cX3_init 85 = .ok (.putfield 38, 3) := dk_181 0 38 (dk_at dksX3_init_3 18 rfl rfl)
theorem dX3_init_88 : decode cX3_init 88 = .ok (.aload_n 0, 1) := dk_42 (dk_at dksX3_init_3 21 rfl rfl)
theorem dX3_init_89 : decode cX3_init 89 = .ok (.bipush 6, 2) := dk_16 6 (dk_at dksX3_init_3 22 rfl rfl)
theorem dX3_init_91 : decode cX3_init 91 = .ok (.newarray .boolean, 2) := dk_188_4 (dk_at dksX3_init_4 0 rfl rfl)
theorem dX3_init_93 : decode cX3_init 93 = .ok (.putfield 41, 3) := dk_181 0 41 (dk_at dksX3_init_4 2 rfl rfl)
theorem dX3_init_96 : decode cX3_init 96 = .ok (.aload_n 0, 1) := dk_42 (dk_at dksX3_init_4 5 rfl rfl)
theorem dX3_init_97 : decode cX3_init 97 = .ok (.bipush 6, 2) := dk_16 6 (dk_at dksX3_init_4 6 rfl rfl)
theorem dX3_init_99 : decode cX3_init 99 = .ok (.newarray .int, 2) := dk_188_10 (dk_at dksX3_init_4 8 rfl rfl)
theorem dX3_init_101 : decode cX3_init 101 = .ok (.putfield 44, 3) := dk_181 0 44 (dk_at dksX3_init_4 10 rfl rfl)
theorem dX3_init_104 : decode cX3_init 104 = .ok (.aload_n 0, 1) := dk_42 (dk_at dksX3_init_4 13 rfl rfl)
theorem dX3_init_105 : decode cX3_init 105 = .ok (.bipush 6, 2) := dk_16 6 (dk_at dksX3_init_4 14 rfl rfl)
theorem dX3_init_107 : decode cX3_init 107 = .ok (.newarray .int, 2) := dk_188_10 (dk_at dksX3_init_4 16 rfl rfl)
theorem dX3_init_109 : decode cX3_init 109 = .ok (.putfield 47, 3) := dk_181 0 47 (dk_at dksX3_init_4 18 rfl rfl)
theorem dX3_init_112 : decode cX3_init 112 = .ok (.aload_n 0, 1) := dk_42 (dk_at dksX3_init_4 21 rfl rfl)
theorem dX3_init_113 : decode cX3_init 113 = .ok (.bipush 6, 2) := dk_16 6 (dk_at dksX3_init_4 22 rfl rfl)
theorem dX3_init_115 : decode cX3_init 115 = .ok (.newarray .int, 2) := dk_188_10 (dk_at dksX3_init_5 0 rfl rfl)
theorem dX3_init_117 : decode cX3_init 117 = .ok (.putfield 50, 3) := dk_181 0 50 (dk_at dksX3_init_5 2 rfl rfl)
theorem dX3_init_120 : decode cX3_init 120 = .ok (.aload_n 0, 1) := dk_42 (dk_at dksX3_init_5 5 rfl rfl)
theorem dX3_init_121 : decode cX3_init 121 = .ok (.bipush 6, 2) := dk_16 6 (dk_at dksX3_init_5 6 rfl rfl)
theorem dX3_init_123 : decode cX3_init 123 = .ok (.newarray .int, 2) := dk_188_10 (dk_at dksX3_init_5 8 rfl rfl)
theorem dX3_init_125 : decode cX3_init 125 = .ok (.putfield 53, 3) := dk_181 0 53 (dk_at dksX3_init_5 10 rfl rfl)
theorem dX3_init_128 : decode cX3_init 128 = .ok (.aload_n 0, 1) := dk_42 (dk_at dksX3_init_5 13 rfl rfl)
theorem dX3_init_129 : decode cX3_init 129 = .ok (.bipush 6, 2) := dk_16 6 (dk_at dksX3_init_5 14 rfl rfl)
theorem dX3_init_131 : decode cX3_init 131 = .ok (.newarray .int, 2) := dk_188_10 (dk_at dksX3_init_5 16 rfl rfl)
theorem dX3_init_133 : decode cX3_init 133 = .ok (.putfield 56, 3) := dk_181 0 56 (dk_at dksX3_init_5 18 rfl rfl)
theorem dX3_init_136 : decode cX3_init 136 = .ok (.aload_n 0, 1) := dk_42 (dk_at dksX3_init_5 21 rfl rfl)
theorem dX3_init_137 : decode cX3_init 137 = .ok (.bipush 6, 2) := dk_16 6 (dk_at dksX3_init_5 22 rfl rfl)
theorem dX3_init_139 : decode cX3_init 139 = .ok (.newarray .int, 2) := dk_188_10 (dk_at dksX3_init_6 0 rfl rfl)
theorem dX3_init_141 : decode cX3_init 141 = .ok (.putfield 59, 3) := dk_181 0 59 (dk_at dksX3_init_6 2 rfl rfl)
theorem dX3_init_144 : decode cX3_init 144 = .ok (.aload_n 0, 1) := dk_42 (dk_at dksX3_init_6 5 rfl rfl)
theorem dX3_init_145 : decode cX3_init 145 = .ok (.bipush 6, 2) := dk_16 6 (dk_at dksX3_init_6 6 rfl rfl)
theorem dX3_init_147 : decode cX3_init 147 = .ok (.newarray .int, 2) := dk_188_10 (dk_at dksX3_init_6 8 rfl rfl)
theorem dX3_init_149 : decode cX3_init 149 = .ok (.putfield 62, 3) := dk_181 0 62 (dk_at dksX3_init_6 10 rfl rfl)
theorem dX3_init_152 : decode cX3_init 152 = .ok (.aload_n 0, 1) := dk_42 (dk_at dksX3_init_6 13 rfl rfl)
theorem dX3_init_153 : decode cX3_init 153 = .ok (.bipush 36, 2) := dk_16 36 (dk_at dksX3_init_6 14 rfl rfl)
theorem dX3_init_155 : decode cX3_init 155 = .ok (.newarray .int, 2) := dk_188_10 (dk_at dksX3_init_6 16 rfl rfl)
theorem dX3_init_157 : decode cX3_init 157 = .ok (.putfield 65, 3) := dk_181 0 65 (dk_at dksX3_init_6 18 rfl rfl)
theorem dX3_init_160 : decode cX3_init 160 = .ok (.aload_n 0, 1) := dk_42 (dk_at dksX3_init_6 21 rfl rfl)
theorem dX3_init_161 : decode cX3_init 161 = .ok (.bipush 6, 2) := dk_16 6 (dk_at dksX3_init_6 22 rfl rfl)
theorem dX3_init_163 : decode cX3_init 163 = .ok (.newarray .int, 2) := dk_188_10 (dk_at dksX3_init_7 0 rfl rfl)
theorem dX3_init_165 : decode cX3_init 165 = .ok (.putfield 68, 3) := dk_181 0 68 (dk_at dksX3_init_7 2 rfl rfl)
theorem dX3_init_168 : decode cX3_init 168 = .ok (.aload_n 0, 1) := dk_42 (dk_at dksX3_init_7 5 rfl rfl)
theorem dX3_init_169 : decode cX3_init 169 = .ok (.bipush 6, 2) := dk_16 6 (dk_at dksX3_init_7 6 rfl rfl)
theorem dX3_init_171 : decode cX3_init 171 = .ok (.newarray .int, 2) := dk_188_10 (dk_at dksX3_init_7 8 rfl rfl)
theorem dX3_init_173 : decode cX3_init 173 = .ok (.putfield 71, 3) := dk_181 0 71 (dk_at dksX3_init_7 10 rfl rfl)
theorem dX3_init_176 : decode cX3_init 176 = .ok (.aload_n 0, 1) := dk_42 (dk_at dksX3_init_7 13 rfl rfl)
theorem dX3_init_177 : decode cX3_init 177 = .ok (.bipush 36, 2) := dk_16 36 (dk_at dksX3_init_7 14 rfl rfl)
theorem dX3_init_179 : decode cX3_init 179 = .ok (.newarray .int, 2) := dk_188_10 (dk_at dksX3_init_7 16 rfl rfl)
theorem dX3_init_181 : decode cX3_init 181 = .ok (.putfield 74, 3) := dk_181 0 74 (dk_at dksX3_init_7 18 rfl rfl)
theorem dX3_init_184 : decode cX3_init 184 = .ok (.aload_n 0, 1) := dk_42 (dk_at dksX3_init_7 21 rfl rfl)
theorem dX3_init_185 : decode cX3_init 185 = .ok (.bipush 6, 2) := dk_16 6 (dk_at dksX3_init_7 22 rfl rfl)
theorem dX3_init_187 : decode cX3_init 187 = .ok (.newarray .int, 2) := dk_188_10 (dk_at dksX3_init_8 0 rfl rfl)
theorem dX3_init_189 : decode cX3_init 189 = .ok (.putfield 77, 3) := dk_181 0 77 (dk_at dksX3_init_8 2 rfl rfl)
theorem dX3_init_192 : decode cX3_init 192 = .ok (.aload_n 0, 1) := dk_42 (dk_at dksX3_init_8 5 rfl rfl)
theorem dX3_init_193 : decode cX3_init 193 = .ok (.sipush 1000, 3) := dk_17 3 232 (dk_at dksX3_init_8 6 rfl rfl)
theorem dX3_init_196 : decode cX3_init 196 = .ok (.newarray .int, 2) := dk_188_10 (dk_at dksX3_init_8 9 rfl rfl)
theorem dX3_init_198 : decode cX3_init 198 = .ok (.putfield 80, 3) := dk_181 0 80 (dk_at dksX3_init_8 11 rfl rfl)
theorem dX3_init_201 : decode cX3_init 201 = .ok (.aload_n 0, 1) := dk_42 (dk_at dksX3_init_8 14 rfl rfl)
theorem dX3_init_202 : decode cX3_init 202 = .ok (.bipush 10, 2) := dk_16 10 (dk_at dksX3_init_8 15 rfl rfl)
theorem dX3_init_204 : decode cX3_init 204 = .ok (.newarray .int, 2) := dk_188_10 (dk_at dksX3_init_8 17 rfl rfl)
theorem dX3_init_206 : decode cX3_init 206 = .ok (.putfield 83, 3) := dk_181 0 83 (dk_at dksX3_init_8 19 rfl rfl)
theorem dX3_init_209 : decode cX3_init 209 = .ok (.aload_n 0, 1) := dk_42 (dk_at dksX3_init_8 22 rfl rfl)
theorem dX3_init_210 : decode cX3_init 210 = .ok (.sipush 1000, 3) := dk_17 3 232 (dk_at dksX3_init_9 0 rfl rfl)
theorem dX3_init_213 : decode cX3_init 213 = .ok (.newarray .boolean, 2) := dk_188_4 (dk_at dksX3_init_9 3 rfl rfl)
theorem dX3_init_215 : decode cX3_init 215 = .ok (.putfield 86, 3) := dk_181 0 86 (dk_at dksX3_init_9 5 rfl rfl)
theorem dX3_init_218 : decode cX3_init 218 = .ok (.iconst 0, 1) := dk_3 (dk_at dksX3_init_9 8 rfl rfl)
theorem dX3_init_219 : decode cX3_init 219 = .ok (.istore_n 1, 1) := dk_60 (dk_at dksX3_init_9 9 rfl rfl)
theorem dX3_init_220 : decode cX3_init 220 = .ok (.iload_n 1, 1) := dk_27 (dk_at dksX3_init_9 10 rfl rfl)
theorem dX3_init_221 : decode cX3_init 221 = .ok (.bipush 6, 2) := dk_16 6 (dk_at dksX3_init_9 11 rfl rfl)
theorem dX3_init_223 : decode cX3_init 223 = .ok (.if_icmp .ge 37, 3) := dk_162 0 37 (dk_at dksX3_init_9 13 rfl rfl)
theorem dX3_init_226 : decode cX3_init 226 = .ok (.aload_n 0, 1) := dk_42 (dk_at dksX3_init_9 16 rfl rfl)
theorem dX3_init_227 : decode cX3_init 227 = .ok (.getfield 47, 3) := dk_180 0 47 (dk_at dksX3_init_9 17 rfl rfl)
theorem dX3_init_230 : decode cX3_init 230 = .ok (.iload_n 1, 1) := dk_27 (dk_at dksX3_init_9 20 rfl rfl)
theorem dX3_init_231 : decode cX3_init 231 = .ok (.iconst (-1), 1) := dk_2 (dk_at dksX3_init_9 21 rfl rfl)
theorem dX3_init_232 : decode cX3_init 232 = .ok (.iastore, 1) := dk_79 (dk_at dksX3_init_9 22 rfl rfl)
theorem dX3_init_233 : decode cX3_init 233 = .ok (.aload_n 0, 1) := dk_42 (dk_at dksX3_init_9 23 rfl rfl)
theorem dX3_init_234 : decode cX3_init 234 = .ok (.getfield 56, 3) := dk_180 0 56 (dk_at dksX3_init_10 0 rfl rfl)
theorem dX3_init_237 : decode cX3_init 237 = .ok (.iload_n 1, 1) := dk_27 (dk_at dksX3_init_10 3 rfl rfl)
theorem dX3_init_238 : decode cX3_init 238 = .ok (.iconst (-1), 1) := dk_2 (dk_at dksX3_init_10 4 rfl rfl)
theorem dX3_init_239 : decode cX3_init 239 = .ok (.iastore, 1) := dk_79 (dk_at dksX3_init_10 5 rfl rfl)
theorem dX3_init_240 : decode cX3_init 240 = .ok (.aload_n 0, 1) := dk_42 (dk_at dksX3_init_10 6 rfl rfl)
theorem dX3_init_241 : decode cX3_init 241 = .ok (.getfield 62, 3) := dk_180 0 62 (dk_at dksX3_init_10 7 rfl rfl)
theorem dX3_init_244 : decode cX3_init 244 = .ok (.iload_n 1, 1) := dk_27 (dk_at dksX3_init_10 10 rfl rfl)
theorem dX3_init_245 : decode cX3_init 245 = .ok (.iconst (-1), 1) := dk_2 (dk_at dksX3_init_10 11 rfl rfl)
theorem dX3_init_246 : decode cX3_init 246 = .ok (.iastore, 1) := dk_79 (dk_at dksX3_init_10 12 rfl rfl)
theorem dX3_init_247 : decode cX3_init 247 = .ok (.aload_n 0, 1) := dk_42 (dk_at dksX3_init_10 13 rfl rfl)
theorem dX3_init_248 : decode cX3_init 248 = .ok (.getfield 71, 3) := dk_180 0 71 (dk_at dksX3_init_10 14 rfl rfl)
theorem dX3_init_251 : decode cX3_init 251 = .ok (.iload_n 1, 1) := dk_27 (dk_at dksX3_init_10 17 rfl rfl)
theorem dX3_init_252 : decode cX3_init 252 = .ok (.iconst (-1), 1) := dk_2 (dk_at dksX3_init_10 18 rfl rfl)
theorem dX3_init_253 : decode cX3_init 253 = .ok (.iastore, 1) := dk_79 (dk_at dksX3_init_10 19 rfl rfl)
theorem dX3_init_254 : decode cX3_init 254 = .ok (.iinc 1 1, 3) := dk_132 1 1 (dk_at dksX3_init_10 20 rfl rfl)
theorem dX3_init_257 : decode cX3_init 257 = .ok (.goto (-37), 3) := dk_167 255 219 (dk_at dksX3_init_11 0 rfl rfl)
theorem dX3_init_260 : decode cX3_init 260 = .ok (.iconst 0, 1) := dk_3 (dk_at dksX3_init_11 3 rfl rfl)
theorem dX3_init_261 : decode cX3_init 261 = .ok (.istore_n 1, 1) := dk_60 (dk_at dksX3_init_11 4 rfl rfl)
theorem dX3_init_262 : decode cX3_init 262 = .ok (.iload_n 1, 1) := dk_27 (dk_at dksX3_init_11 5 rfl rfl)
theorem dX3_init_263 : decode cX3_init 263 = .ok (.bipush 10, 2) := dk_16 10 (dk_at dksX3_init_11 6 rfl rfl)
theorem dX3_init_265 : decode cX3_init 265 = .ok (.if_icmp .ge 16, 3) := dk_162 0 16 (dk_at dksX3_init_11 8 rfl rfl)
theorem dX3_init_268 : decode cX3_init 268 = .ok (.aload_n 0, 1) := dk_42 (dk_at dksX3_init_11 11 rfl rfl)
theorem dX3_init_269 : decode cX3_init 269 = .ok (.getfield 83, 3) := dk_180 0 83 (dk_at dksX3_init_11 12 rfl rfl)
theorem dX3_init_272 : decode cX3_init 272 = .ok (.iload_n 1, 1) := dk_27 (dk_at dksX3_init_11 15 rfl rfl)
theorem dX3_init_273 : decode cX3_init 273 = .ok (.iconst (-1), 1) := dk_2 (dk_at dksX3_init_11 16 rfl rfl)
theorem dX3_init_274 : decode cX3_init 274 = .ok (.iastore, 1) := dk_79 (dk_at dksX3_init_11 17 rfl rfl)
theorem dX3_init_275 : decode cX3_init 275 = .ok (.iinc 1 1, 3) := dk_132 1 1 (dk_at dksX3_init_11 18 rfl rfl)
theorem dX3_init_278 : decode cX3_init 278 = .ok (.goto (-16), 3) := dk_167 255 240 (dk_at dksX3_init_11 21 rfl rfl)
theorem dX3_init_281 : decode cX3_init 281 = .ok (.return_, 1) := dk_177 (dk_at dksX3_init_12 0 rfl rfl)
abbrev cX3_thrown : ByteArray := prog_21_method_2_code
def yX3_thrown : MethodName := ⟨RX3, "thrown", "()I"⟩
theorem dX3_thrown_0 : decode cX3_thrown 0 = .ok (.aload_n 0, 1) := by decide +kernel
theorem dX3_thrown_1 : decode cX3_thrown 1 = .ok (.getfield 89, 3) := by decide +kernel
theorem dX3_thrown_4 : decode cX3_thrown 4 = .ok (.ireturn, 1) := by decide +kernel
abbrev cX3_list : ByteArray := prog_21_method_8_code
def yX3_list : MethodName := ⟨RX3, "list", "()I"⟩
def dkwX3_list_1 : List UInt8 := [42, 89, 180, 0, 93, 4, 96, 181, 0, 93, 42, 180, 0, 93, 4, 100, 172]
abbrev dktX3_list_1 : List UInt8 := dkwX3_list_1 ++ []
def dkwX3_list_0 : List UInt8 := [42, 42, 180, 0, 93, 16, 8, 160, 0, 7, 4, 167, 0, 4, 3, 4, 182, 0, 103, 153, 0, 5, 3, 172]
abbrev dktX3_list_0 : List UInt8 := dkwX3_list_0 ++ dktX3_list_1
theorem dksX3_list_0 : cX3_list.data.toList.drop 0 = dktX3_list_0 := by decide +kernel
theorem dksX3_list_1 : cX3_list.data.toList.drop 24 = dktX3_list_1 := dk_seg dksX3_list_0 24 rfl rfl
theorem dX3_list_0 : decode cX3_list 0 = .ok (.aload_n 0, 1) := dk_42 (dk_at dksX3_list_0 0 rfl rfl)
theorem dX3_list_1 : decode cX3_list 1 = .ok (.aload_n 0, 1) := dk_42 (dk_at dksX3_list_0 1 rfl rfl)
theorem dX3_list_2 : decode cX3_list 2 = .ok (.getfield 93, 3) := dk_180 0 93 (dk_at dksX3_list_0 2 rfl rfl)
theorem dX3_list_5 : decode cX3_list 5 = .ok (.bipush 8, 2) := dk_16 8 (dk_at dksX3_list_0 5 rfl rfl)
theorem dX3_list_7 : decode cX3_list 7 = .ok (.if_icmp .ne 7, 3) := dk_160 0 7 (dk_at dksX3_list_0 7 rfl rfl)
theorem dX3_list_10 : decode cX3_list 10 = .ok (.iconst 1, 1) := dk_4 (dk_at dksX3_list_0 10 rfl rfl)
theorem dX3_list_11 : decode cX3_list 11 = .ok (.goto 4, 3) := dk_167 0 4 (dk_at dksX3_list_0 11 rfl rfl)
theorem dX3_list_14 : decode cX3_list 14 = .ok (.iconst 0, 1) := dk_3 (dk_at dksX3_list_0 14 rfl rfl)
theorem dX3_list_15 : decode cX3_list 15 = .ok (.iconst 1, 1) := dk_4 (dk_at dksX3_list_0 15 rfl rfl)
theorem dX3_list_16 : decode cX3_list 16 = .ok (.invokevirtual 103, 3) := dk_182 0 103 (dk_at dksX3_list_0 16 rfl rfl)
theorem dX3_list_19 : decode cX3_list 19 = .ok (.ifCond .eq 5, 3) := dk_153 0 5 (dk_at dksX3_list_0 19 rfl rfl)
theorem dX3_list_22 : decode cX3_list 22 = .ok (.iconst 0, 1) := dk_3 (dk_at dksX3_list_0 22 rfl rfl)
theorem dX3_list_23 : decode cX3_list 23 = .ok (.ireturn, 1) := dk_172 (dk_at dksX3_list_0 23 rfl rfl)
theorem dX3_list_24 : decode cX3_list 24 = .ok (.aload_n 0, 1) := dk_42 (dk_at dksX3_list_1 0 rfl rfl)
theorem dX3_list_25 : decode cX3_list 25 = .ok (.dup, 1) := dk_89 (dk_at dksX3_list_1 1 rfl rfl)
theorem dX3_list_26 : decode cX3_list 26 = .ok (.getfield 93, 3) := dk_180 0 93 (dk_at dksX3_list_1 2 rfl rfl)
theorem dX3_list_29 : decode cX3_list 29 = .ok (.iconst 1, 1) := dk_4 (dk_at dksX3_list_1 5 rfl rfl)
theorem dX3_list_30 : decode cX3_list 30 = .ok (.iadd, 1) := dk_96 (dk_at dksX3_list_1 6 rfl rfl)
theorem dX3_list_31 : decode cX3_list 31 = .ok (.putfield 93, 3) := dk_181 0 93 (dk_at dksX3_list_1 7 rfl rfl)
theorem dX3_list_34 : decode cX3_list 34 = .ok (.aload_n 0, 1) := dk_42 (dk_at dksX3_list_1 10 rfl rfl)
theorem dX3_list_35 : decode cX3_list 35 = .ok (.getfield 93, 3) := dk_180 0 93 (dk_at dksX3_list_1 11 rfl rfl)
theorem dX3_list_38 : decode cX3_list 38 = .ok (.iconst 1, 1) := dk_4 (dk_at dksX3_list_1 14 rfl rfl)
theorem dX3_list_39 : decode cX3_list 39 = .ok (.isub, 1) := dk_100 (dk_at dksX3_list_1 15 rfl rfl)
theorem dX3_list_40 : decode cX3_list 40 = .ok (.ireturn, 1) := dk_172 (dk_at dksX3_list_1 16 rfl rfl)
abbrev cX3_isThrown : ByteArray := prog_21_method_4_code
def yX3_isThrown : MethodName := ⟨RX3, "isThrown", "(ZI)Z"⟩
def dkwX3_isThrown_0 : List UInt8 := [42, 27, 153, 0, 7, 28, 167, 0, 4, 3, 181, 0, 89, 27, 172]
abbrev dktX3_isThrown_0 : List UInt8 := dkwX3_isThrown_0 ++ []
theorem dksX3_isThrown_0 : cX3_isThrown.data.toList.drop 0 = dktX3_isThrown_0 := by decide +kernel
theorem dX3_isThrown_0 : decode cX3_isThrown 0 = .ok (.aload_n 0, 1) := dk_42 (dk_at dksX3_isThrown_0 0 rfl rfl)
theorem dX3_isThrown_1 : decode cX3_isThrown 1 = .ok (.iload_n 1, 1) := dk_27 (dk_at dksX3_isThrown_0 1 rfl rfl)
theorem dX3_isThrown_2 : decode cX3_isThrown 2 = .ok (.ifCond .eq 7, 3) := dk_153 0 7 (dk_at dksX3_isThrown_0 2 rfl rfl)
theorem dX3_isThrown_5 : decode cX3_isThrown 5 = .ok (.iload_n 2, 1) := dk_28 (dk_at dksX3_isThrown_0 5 rfl rfl)
theorem dX3_isThrown_6 : decode cX3_isThrown 6 = .ok (.goto 4, 3) := dk_167 0 4 (dk_at dksX3_isThrown_0 6 rfl rfl)
theorem dX3_isThrown_9 : decode cX3_isThrown 9 = .ok (.iconst 0, 1) := dk_3 (dk_at dksX3_isThrown_0 9 rfl rfl)
theorem dX3_isThrown_10 : decode cX3_isThrown 10 = .ok (.putfield 89, 3) := dk_181 0 89 (dk_at dksX3_isThrown_0 10 rfl rfl)
theorem dX3_isThrown_13 : decode cX3_isThrown 13 = .ok (.iload_n 1, 1) := dk_27 (dk_at dksX3_isThrown_0 13 rfl rfl)
theorem dX3_isThrown_14 : decode cX3_isThrown 14 = .ok (.ireturn, 1) := dk_172 (dk_at dksX3_isThrown_0 14 rfl rfl)
abbrev cX3_line : ByteArray := prog_21_method_11_code
def yX3_line : MethodName := ⟨RX3, "line", "(IICI)I"⟩
def dkwX3_line_8 : List UInt8 := [180, 0, 7, 27, 46, 172]
abbrev dktX3_line_8 : List UInt8 := dkwX3_line_8 ++ []
def dkwX3_line_7 : List UInt8 := [180, 0, 16, 16, 20, 27, 104, 28, 96, 21, 4, 79, 42, 180, 0, 7, 27, 92, 46, 4, 96, 79, 42]
abbrev dktX3_line_7 : List UInt8 := dkwX3_line_7 ++ dktX3_line_8
def dkwX3_line_6 : List UInt8 := [4, 100, 46, 79, 132, 5, 255, 167, 255, 210, 42, 180, 0, 13, 16, 20, 27, 104, 28, 96, 29, 79, 42]
abbrev dktX3_line_6 : List UInt8 := dkwX3_line_6 ++ dktX3_line_7
def dkwX3_line_5 : List UInt8 := [21, 5, 42, 180, 0, 13, 21, 5, 4, 100, 46, 79, 42, 180, 0, 16, 21, 5, 42, 180, 0, 16, 21, 5]
abbrev dktX3_line_5 : List UInt8 := dkwX3_line_5 ++ dktX3_line_6
def dkwX3_line_4 : List UInt8 := [42, 180, 0, 7, 27, 46, 96, 54, 5, 21, 5, 16, 20, 27, 104, 28, 96, 164, 0, 41, 42, 180, 0, 13]
abbrev dktX3_line_4 : List UInt8 := dkwX3_line_4 ++ dktX3_line_5
def dkwX3_line_3 : List UInt8 := [46, 16, 20, 160, 0, 7, 4, 167, 0, 4, 3, 6, 182, 0, 103, 153, 0, 5, 3, 172, 16, 20, 27, 104]
abbrev dktX3_line_3 : List UInt8 := dkwX3_line_3 ++ dktX3_line_4
def dkwX3_line_2 : List UInt8 := [184, 0, 115, 154, 0, 7, 4, 167, 0, 4, 3, 5, 182, 0, 103, 154, 0, 27, 42, 42, 180, 0, 7, 27]
abbrev dktX3_line_2 : List UInt8 := dkwX3_line_2 ++ dktX3_line_3
def dkwX3_line_1 : List UInt8 := [167, 0, 4, 3, 4, 182, 0, 103, 154, 0, 56, 42, 29, 184, 0, 111, 153, 0, 12, 29, 21, 4]
abbrev dktX3_line_1 : List UInt8 := dkwX3_line_1 ++ dktX3_line_2
def dkwX3_line_0 : List UInt8 := [42, 42, 27, 182, 0, 107, 153, 0, 17, 28, 3, 42, 180, 0, 7, 27, 46, 184, 0, 96, 154, 0, 7, 4]
abbrev dktX3_line_0 : List UInt8 := dkwX3_line_0 ++ dktX3_line_1
theorem dksX3_line_0 : cX3_line.data.toList.drop 0 = dktX3_line_0 := by decide +kernel
theorem dksX3_line_1 : cX3_line.data.toList.drop 24 = dktX3_line_1 := dk_seg dksX3_line_0 24 rfl rfl
theorem dksX3_line_2 : cX3_line.data.toList.drop 46 = dktX3_line_2 := dk_seg dksX3_line_1 22 rfl rfl
theorem dksX3_line_3 : cX3_line.data.toList.drop 70 = dktX3_line_3 := dk_seg dksX3_line_2 24 rfl rfl
theorem dksX3_line_4 : cX3_line.data.toList.drop 94 = dktX3_line_4 := dk_seg dksX3_line_3 24 rfl rfl
theorem dksX3_line_5 : cX3_line.data.toList.drop 118 = dktX3_line_5 := dk_seg dksX3_line_4 24 rfl rfl
theorem dksX3_line_6 : cX3_line.data.toList.drop 142 = dktX3_line_6 := dk_seg dksX3_line_5 24 rfl rfl
theorem dksX3_line_7 : cX3_line.data.toList.drop 165 = dktX3_line_7 := dk_seg dksX3_line_6 23 rfl rfl
theorem dksX3_line_8 : cX3_line.data.toList.drop 188 = dktX3_line_8 := dk_seg dksX3_line_7 23 rfl rfl
theorem dX3_line_0 : decode cX3_line 0 = .ok (.aload_n 0, 1) := dk_42 (dk_at dksX3_line_0 0 rfl rfl)
theorem dX3_line_1 : decode cX3_line 1 = .ok (.aload_n 0, 1) := dk_42 (dk_at dksX3_line_0 1 rfl rfl)
theorem dX3_line_2 : decode cX3_line 2 = .ok (.iload_n 1, 1) := dk_27 (dk_at dksX3_line_0 2 rfl rfl)
theorem dX3_line_3 : decode cX3_line 3 = .ok (.invokevirtual 107, 3) := dk_182 0 107 (dk_at dksX3_line_0 3 rfl rfl)
theorem dX3_line_6 : decode cX3_line 6 = .ok (.ifCond .eq 17, 3) := dk_153 0 17 (dk_at dksX3_line_0 6 rfl rfl)
theorem dX3_line_9 : decode cX3_line 9 = .ok (.iload_n 2, 1) := dk_28 (dk_at dksX3_line_0 9 rfl rfl)
theorem dX3_line_10 : decode cX3_line 10 = .ok (.iconst 0, 1) := dk_3 (dk_at dksX3_line_0 10 rfl rfl)
theorem dX3_line_11 : decode cX3_line 11 = .ok (.aload_n 0, 1) := dk_42 (dk_at dksX3_line_0 11 rfl rfl)
theorem dX3_line_12 : decode cX3_line 12 = .ok (.getfield 7, 3) := dk_180 0 7 (dk_at dksX3_line_0 12 rfl rfl)
theorem dX3_line_15 : decode cX3_line 15 = .ok (.iload_n 1, 1) := dk_27 (dk_at dksX3_line_0 15 rfl rfl)
theorem dX3_line_16 : decode cX3_line 16 = .ok (.iaload, 1) := dk_46 (dk_at dksX3_line_0 16 rfl rfl)
theorem dX3_line_17 : decode cX3_line 17 = .ok (.invokestatic 96, 3) := dk_184 0 96 (dk_at dksX3_line_0 17 rfl rfl)
theorem dX3_line_20 : decode cX3_line 20 = .ok (.ifCond .ne 7, 3) := dk_154 0 7 (dk_at dksX3_line_0 20 rfl rfl)
theorem dX3_line_23 : decode cX3_line 23 = .ok (.iconst 1, 1) := dk_4 (dk_at dksX3_line_0 23 rfl rfl)
theorem dX3_line_24 : decode cX3_line 24 = .ok (.goto 4, 3) := dk_167 0 4 (dk_at dksX3_line_1 0 rfl rfl)
theorem dX3_line_27 : decode cX3_line 27 = .ok (.iconst 0, 1) := dk_3 (dk_at dksX3_line_1 3 rfl rfl)
theorem dX3_line_28 : decode cX3_line 28 = .ok (.iconst 1, 1) := dk_4 (dk_at dksX3_line_1 4 rfl rfl)
theorem dX3_line_29 : decode cX3_line 29 = .ok (.invokevirtual 103, 3) := dk_182 0 103 (dk_at dksX3_line_1 5 rfl rfl)
theorem dX3_line_32 : decode cX3_line 32 = .ok (.ifCond .ne 56, 3) := dk_154 0 56 (dk_at dksX3_line_1 8 rfl rfl)
theorem dX3_line_35 : decode cX3_line 35 = .ok (.aload_n 0, 1) := dk_42 (dk_at dksX3_line_1 11 rfl rfl)
theorem dX3_line_36 : decode cX3_line 36 = .ok (.iload_n 3, 1) := dk_29 (dk_at dksX3_line_1 12 rfl rfl)
theorem dX3_line_37 : decode cX3_line 37 = .ok (.invokestatic 111, 3) := dk_184 0 111 (dk_at dksX3_line_1 13 rfl rfl)
theorem dX3_line_40 : decode cX3_line 40 = .ok (.ifCond .eq 12, 3) := dk_153 0 12 (dk_at dksX3_line_1 16 rfl rfl)
theorem dX3_line_43 : decode cX3_line 43 = .ok (.iload_n 3, 1) := dk_29 (dk_at dksX3_line_1 19 rfl rfl)
theorem dX3_line_44 : decode cX3_line 44 = .ok (.iload 4, 2) := dk_21 4 (dk_at dksX3_line_1 20 rfl rfl)
theorem dX3_line_46 : decode cX3_line 46 = .ok (.invokestatic 115, 3) := dk_184 0 115 (dk_at dksX3_line_2 0 rfl rfl)
theorem dX3_line_49 : decode cX3_line 49 = .ok (.ifCond .ne 7, 3) := dk_154 0 7 (dk_at dksX3_line_2 3 rfl rfl)
theorem dX3_line_52 : decode cX3_line 52 = .ok (.iconst 1, 1) := dk_4 (dk_at dksX3_line_2 6 rfl rfl)
theorem dX3_line_53 : decode cX3_line 53 = .ok (.goto 4, 3) := dk_167 0 4 (dk_at dksX3_line_2 7 rfl rfl)
theorem dX3_line_56 : decode cX3_line 56 = .ok (.iconst 0, 1) := dk_3 (dk_at dksX3_line_2 10 rfl rfl)
theorem dX3_line_57 : decode cX3_line 57 = .ok (.iconst 2, 1) := dk_5 (dk_at dksX3_line_2 11 rfl rfl)
theorem dX3_line_58 : decode cX3_line 58 = .ok (.invokevirtual 103, 3) := dk_182 0 103 (dk_at dksX3_line_2 12 rfl rfl)
theorem dX3_line_61 : decode cX3_line 61 = .ok (.ifCond .ne 27, 3) := dk_154 0 27 (dk_at dksX3_line_2 15 rfl rfl)
theorem dX3_line_64 : decode cX3_line 64 = .ok (.aload_n 0, 1) := dk_42 (dk_at dksX3_line_2 18 rfl rfl)
theorem dX3_line_65 : decode cX3_line 65 = .ok (.aload_n 0, 1) := dk_42 (dk_at dksX3_line_2 19 rfl rfl)
theorem dX3_line_66 : decode cX3_line 66 = .ok (.getfield 7, 3) := dk_180 0 7 (dk_at dksX3_line_2 20 rfl rfl)
theorem dX3_line_69 : decode cX3_line 69 = .ok (.iload_n 1, 1) := dk_27 (dk_at dksX3_line_2 23 rfl rfl)
theorem dX3_line_70 : decode cX3_line 70 = .ok (.iaload, 1) := dk_46 (dk_at dksX3_line_3 0 rfl rfl)
theorem dX3_line_71 : decode cX3_line 71 = .ok (.bipush 20, 2) := dk_16 20 (dk_at dksX3_line_3 1 rfl rfl)
theorem dX3_line_73 : decode cX3_line 73 = .ok (.if_icmp .ne 7, 3) := dk_160 0 7 (dk_at dksX3_line_3 3 rfl rfl)
theorem dX3_line_76 : decode cX3_line 76 = .ok (.iconst 1, 1) := dk_4 (dk_at dksX3_line_3 6 rfl rfl)
theorem dX3_line_77 : decode cX3_line 77 = .ok (.goto 4, 3) := dk_167 0 4 (dk_at dksX3_line_3 7 rfl rfl)
theorem dX3_line_80 : decode cX3_line 80 = .ok (.iconst 0, 1) := dk_3 (dk_at dksX3_line_3 10 rfl rfl)
theorem dX3_line_81 : decode cX3_line 81 = .ok (.iconst 3, 1) := dk_6 (dk_at dksX3_line_3 11 rfl rfl)
theorem dX3_line_82 : decode cX3_line 82 = .ok (.invokevirtual 103, 3) := dk_182 0 103 (dk_at dksX3_line_3 12 rfl rfl)
theorem dX3_line_85 : decode cX3_line 85 = .ok (.ifCond .eq 5, 3) := dk_153 0 5 (dk_at dksX3_line_3 15 rfl rfl)
theorem dX3_line_88 : decode cX3_line 88 = .ok (.iconst 0, 1) := dk_3 (dk_at dksX3_line_3 18 rfl rfl)
theorem dX3_line_89 : decode cX3_line 89 = .ok (.ireturn, 1) := dk_172 (dk_at dksX3_line_3 19 rfl rfl)
theorem dX3_line_90 : decode cX3_line 90 = .ok (.bipush 20, 2) := dk_16 20 (dk_at dksX3_line_3 20 rfl rfl)
theorem dX3_line_92 : decode cX3_line 92 = .ok (.iload_n 1, 1) := dk_27 (dk_at dksX3_line_3 22 rfl rfl)
theorem dX3_line_93 : decode cX3_line 93 = .ok (.imul, 1) := dk_104 (dk_at dksX3_line_3 23 rfl rfl)
theorem dX3_line_94 : decode cX3_line 94 = .ok (.aload_n 0, 1) := dk_42 (dk_at dksX3_line_4 0 rfl rfl)
theorem dX3_line_95 : decode cX3_line 95 = .ok (.getfield 7, 3) := dk_180 0 7 (dk_at dksX3_line_4 1 rfl rfl)
theorem dX3_line_98 : decode cX3_line 98 = .ok (.iload_n 1, 1) := dk_27 (dk_at dksX3_line_4 4 rfl rfl)
theorem dX3_line_99 : decode cX3_line 99 = .ok (.iaload, 1) := dk_46 (dk_at dksX3_line_4 5 rfl rfl)
theorem dX3_line_100 : decode cX3_line 100 = .ok (.iadd, 1) := dk_96 (dk_at dksX3_line_4 6 rfl rfl)
theorem dX3_line_101 : decode cX3_line 101 = .ok (.istore 5, 2) := dk_54 5 (dk_at dksX3_line_4 7 rfl rfl)
theorem dX3_line_103 : decode cX3_line 103 = .ok (.iload 5, 2) := dk_21 5 (dk_at dksX3_line_4 9 rfl rfl)
theorem dX3_line_105 : decode cX3_line 105 = .ok (.bipush 20, 2) := dk_16 20 (dk_at dksX3_line_4 11 rfl rfl)
theorem dX3_line_107 : decode cX3_line 107 = .ok (.iload_n 1, 1) := dk_27 (dk_at dksX3_line_4 13 rfl rfl)
theorem dX3_line_108 : decode cX3_line 108 = .ok (.imul, 1) := dk_104 (dk_at dksX3_line_4 14 rfl rfl)
theorem dX3_line_109 : decode cX3_line 109 = .ok (.iload_n 2, 1) := dk_28 (dk_at dksX3_line_4 15 rfl rfl)
theorem dX3_line_110 : decode cX3_line 110 = .ok (.iadd, 1) := dk_96 (dk_at dksX3_line_4 16 rfl rfl)
theorem dX3_line_111 : decode cX3_line 111 = .ok (.if_icmp .le 41, 3) := dk_164 0 41 (dk_at dksX3_line_4 17 rfl rfl)
theorem dX3_line_114 : decode cX3_line 114 = .ok (.aload_n 0, 1) := dk_42 (dk_at dksX3_line_4 20 rfl rfl)
theorem dX3_line_115 : decode cX3_line 115 = .ok (.getfield 13, 3) := dk_180 0 13 (dk_at dksX3_line_4 21 rfl rfl)
theorem dX3_line_118 : decode cX3_line 118 = .ok (.iload 5, 2) := dk_21 5 (dk_at dksX3_line_5 0 rfl rfl)
theorem dX3_line_120 : decode cX3_line 120 = .ok (.aload_n 0, 1) := dk_42 (dk_at dksX3_line_5 2 rfl rfl)
theorem dX3_line_121 : decode cX3_line 121 = .ok (.getfield 13, 3) := dk_180 0 13 (dk_at dksX3_line_5 3 rfl rfl)
theorem dX3_line_124 : decode cX3_line 124 = .ok (.iload 5, 2) := dk_21 5 (dk_at dksX3_line_5 6 rfl rfl)
theorem dX3_line_126 : decode cX3_line 126 = .ok (.iconst 1, 1) := dk_4 (dk_at dksX3_line_5 8 rfl rfl)
theorem dX3_line_127 : decode cX3_line 127 = .ok (.isub, 1) := dk_100 (dk_at dksX3_line_5 9 rfl rfl)
theorem dX3_line_128 : decode cX3_line 128 = .ok (.iaload, 1) := dk_46 (dk_at dksX3_line_5 10 rfl rfl)
theorem dX3_line_129 : decode cX3_line 129 = .ok (.iastore, 1) := dk_79 (dk_at dksX3_line_5 11 rfl rfl)
theorem dX3_line_130 : decode cX3_line 130 = .ok (.aload_n 0, 1) := dk_42 (dk_at dksX3_line_5 12 rfl rfl)
theorem dX3_line_131 : decode cX3_line 131 = .ok (.getfield 16, 3) := dk_180 0 16 (dk_at dksX3_line_5 13 rfl rfl)
theorem dX3_line_134 : decode cX3_line 134 = .ok (.iload 5, 2) := dk_21 5 (dk_at dksX3_line_5 16 rfl rfl)
theorem dX3_line_136 : decode cX3_line 136 = .ok (.aload_n 0, 1) := dk_42 (dk_at dksX3_line_5 18 rfl rfl)
theorem dX3_line_137 : decode cX3_line 137 = .ok (.getfield 16, 3) := dk_180 0 16 (dk_at dksX3_line_5 19 rfl rfl)
theorem dX3_line_140 : decode cX3_line 140 = .ok (.iload 5, 2) := dk_21 5 (dk_at dksX3_line_5 22 rfl rfl)
theorem dX3_line_142 : decode cX3_line 142 = .ok (.iconst 1, 1) := dk_4 (dk_at dksX3_line_6 0 rfl rfl)
theorem dX3_line_143 : decode cX3_line 143 = .ok (.isub, 1) := dk_100 (dk_at dksX3_line_6 1 rfl rfl)
theorem dX3_line_144 : decode cX3_line 144 = .ok (.iaload, 1) := dk_46 (dk_at dksX3_line_6 2 rfl rfl)
theorem dX3_line_145 : decode cX3_line 145 = .ok (.iastore, 1) := dk_79 (dk_at dksX3_line_6 3 rfl rfl)
theorem dX3_line_146 : decode cX3_line 146 = .ok (.iinc 5 (-1), 3) := dk_132 5 255 (dk_at dksX3_line_6 4 rfl rfl)
theorem dX3_line_149 : decode cX3_line 149 = .ok (.goto (-46), 3) := dk_167 255 210 (dk_at dksX3_line_6 7 rfl rfl)
theorem dX3_line_152 : decode cX3_line 152 = .ok (.aload_n 0, 1) := dk_42 (dk_at dksX3_line_6 10 rfl rfl)
theorem dX3_line_153 : decode cX3_line 153 = .ok (.getfield 13, 3) := dk_180 0 13 (dk_at dksX3_line_6 11 rfl rfl)
theorem dX3_line_156 : decode cX3_line 156 = .ok (.bipush 20, 2) := dk_16 20 (dk_at dksX3_line_6 14 rfl rfl)
theorem dX3_line_158 : decode cX3_line 158 = .ok (.iload_n 1, 1) := dk_27 (dk_at dksX3_line_6 16 rfl rfl)
theorem dX3_line_159 : decode cX3_line 159 = .ok (.imul, 1) := dk_104 (dk_at dksX3_line_6 17 rfl rfl)
theorem dX3_line_160 : decode cX3_line 160 = .ok (.iload_n 2, 1) := dk_28 (dk_at dksX3_line_6 18 rfl rfl)
theorem dX3_line_161 : decode cX3_line 161 = .ok (.iadd, 1) := dk_96 (dk_at dksX3_line_6 19 rfl rfl)
theorem dX3_line_162 : decode cX3_line 162 = .ok (.iload_n 3, 1) := dk_29 (dk_at dksX3_line_6 20 rfl rfl)
theorem dX3_line_163 : decode cX3_line 163 = .ok (.iastore, 1) := dk_79 (dk_at dksX3_line_6 21 rfl rfl)
theorem dX3_line_164 : decode cX3_line 164 = .ok (.aload_n 0, 1) := dk_42 (dk_at dksX3_line_6 22 rfl rfl)
theorem dX3_line_165 : decode cX3_line 165 = .ok (.getfield 16, 3) := dk_180 0 16 (dk_at dksX3_line_7 0 rfl rfl)
theorem dX3_line_168 : decode cX3_line 168 = .ok (.bipush 20, 2) := dk_16 20 (dk_at dksX3_line_7 3 rfl rfl)
theorem dX3_line_170 : decode cX3_line 170 = .ok (.iload_n 1, 1) := dk_27 (dk_at dksX3_line_7 5 rfl rfl)
theorem dX3_line_171 : decode cX3_line 171 = .ok (.imul, 1) := dk_104 (dk_at dksX3_line_7 6 rfl rfl)
theorem dX3_line_172 : decode cX3_line 172 = .ok (.iload_n 2, 1) := dk_28 (dk_at dksX3_line_7 7 rfl rfl)
theorem dX3_line_173 : decode cX3_line 173 = .ok (.iadd, 1) := dk_96 (dk_at dksX3_line_7 8 rfl rfl)
theorem dX3_line_174 : decode cX3_line 174 = .ok (.iload 4, 2) := dk_21 4 (dk_at dksX3_line_7 9 rfl rfl)
theorem dX3_line_176 : decode cX3_line 176 = .ok (.iastore, 1) := dk_79 (dk_at dksX3_line_7 11 rfl rfl)
theorem dX3_line_177 : decode cX3_line 177 = .ok (.aload_n 0, 1) := dk_42 (dk_at dksX3_line_7 12 rfl rfl)
theorem dX3_line_178 : decode cX3_line 178 = .ok (.getfield 7, 3) := dk_180 0 7 (dk_at dksX3_line_7 13 rfl rfl)
theorem dX3_line_181 : decode cX3_line 181 = .ok (.iload_n 1, 1) := dk_27 (dk_at dksX3_line_7 16 rfl rfl)
theorem dX3_line_182 : decode cX3_line 182 = .ok (.dup2, 1) := dk_92 (dk_at dksX3_line_7 17 rfl rfl)
theorem dX3_line_183 : decode cX3_line 183 = .ok (.iaload, 1) := dk_46 (dk_at dksX3_line_7 18 rfl rfl)
theorem dX3_line_184 : decode cX3_line 184 = .ok (.iconst 1, 1) := dk_4 (dk_at dksX3_line_7 19 rfl rfl)
theorem dX3_line_185 : decode cX3_line 185 = .ok (.iadd, 1) := dk_96 (dk_at dksX3_line_7 20 rfl rfl)
theorem dX3_line_186 : decode cX3_line 186 = .ok (.iastore, 1) := dk_79 (dk_at dksX3_line_7 21 rfl rfl)
theorem dX3_line_187 : decode cX3_line 187 = .ok (.aload_n 0, 1) := dk_42 (dk_at dksX3_line_7 22 rfl rfl)
theorem dX3_line_188 : decode cX3_line 188 = .ok (.getfield 7, 3) := dk_180 0 7 (dk_at dksX3_line_8 0 rfl rfl)
theorem dX3_line_191 : decode cX3_line 191 = .ok (.iload_n 1, 1) := dk_27 (dk_at dksX3_line_8 3 rfl rfl)
theorem dX3_line_192 : decode cX3_line 192 = .ok (.iaload, 1) := dk_46 (dk_at dksX3_line_8 4 rfl rfl)
theorem dX3_line_193 : decode cX3_line 193 = .ok (.ireturn, 1) := dk_172 (dk_at dksX3_line_8 5 rfl rfl)
abbrev cX3_isList : ByteArray := prog_21_method_6_code
def yX3_isList : MethodName := ⟨RX3, "isList", "(I)Z"⟩
def dkwX3_isList_0 : List UInt8 := [27, 3, 42, 180, 0, 93, 4, 100, 184, 0, 96, 172]
abbrev dktX3_isList_0 : List UInt8 := dkwX3_isList_0 ++ []
theorem dksX3_isList_0 : cX3_isList.data.toList.drop 0 = dktX3_isList_0 := by decide +kernel
theorem dX3_isList_0 : decode cX3_isList 0 = .ok (.iload_n 1, 1) := dk_27 (dk_at dksX3_isList_0 0 rfl rfl)
theorem dX3_isList_1 : decode cX3_isList 1 = .ok (.iconst 0, 1) := dk_3 (dk_at dksX3_isList_0 1 rfl rfl)
theorem dX3_isList_2 : decode cX3_isList 2 = .ok (.aload_n 0, 1) := dk_42 (dk_at dksX3_isList_0 2 rfl rfl)
theorem dX3_isList_3 : decode cX3_isList 3 = .ok (.getfield 93, 3) := dk_180 0 93 (dk_at dksX3_isList_0 3 rfl rfl)
theorem dX3_isList_6 : decode cX3_isList 6 = .ok (.iconst 1, 1) := dk_4 (dk_at dksX3_isList_0 6 rfl rfl)
theorem dX3_isList_7 : decode cX3_isList 7 = .ok (.isub, 1) := dk_100 (dk_at dksX3_isList_0 7 rfl rfl)
theorem dX3_isList_8 : decode cX3_isList 8 = .ok (.invokestatic 96, 3) := dk_184 0 96 (dk_at dksX3_isList_0 8 rfl rfl)
theorem dX3_isList_11 : decode cX3_isList 11 = .ok (.ireturn, 1) := dk_172 (dk_at dksX3_isList_0 11 rfl rfl)
abbrev cX3_isIn : ByteArray := prog_21_method_3_code
def yX3_isIn : MethodName := ⟨RX3, "isIn", "(III)Z"⟩
def dkwX3_isIn_0 : List UInt8 := [26, 27, 161, 0, 12, 26, 28, 163, 0, 7, 4, 167, 0, 4, 3, 172]
abbrev dktX3_isIn_0 : List UInt8 := dkwX3_isIn_0 ++ []
theorem dksX3_isIn_0 : cX3_isIn.data.toList.drop 0 = dktX3_isIn_0 := by decide +kernel
theorem dX3_isIn_0 : decode cX3_isIn 0 = .ok (.iload_n 0, 1) := dk_26 (dk_at dksX3_isIn_0 0 rfl rfl)
theorem dX3_isIn_1 : decode cX3_isIn 1 = .ok (.iload_n 1, 1) := dk_27 (dk_at dksX3_isIn_0 1 rfl rfl)
theorem dX3_isIn_2 : decode cX3_isIn 2 = .ok (.if_icmp .lt 12, 3) := dk_161 0 12 (dk_at dksX3_isIn_0 2 rfl rfl)
theorem dX3_isIn_5 : decode cX3_isIn 5 = .ok (.iload_n 0, 1) := dk_26 (dk_at dksX3_isIn_0 5 rfl rfl)
theorem dX3_isIn_6 : decode cX3_isIn 6 = .ok (.iload_n 2, 1) := dk_28 (dk_at dksX3_isIn_0 6 rfl rfl)
theorem dX3_isIn_7 : decode cX3_isIn 7 = .ok (.if_icmp .gt 7, 3) := dk_163 0 7 (dk_at dksX3_isIn_0 7 rfl rfl)
theorem dX3_isIn_10 : decode cX3_isIn 10 = .ok (.iconst 1, 1) := dk_4 (dk_at dksX3_isIn_0 10 rfl rfl)
theorem dX3_isIn_11 : decode cX3_isIn 11 = .ok (.goto 4, 3) := dk_167 0 4 (dk_at dksX3_isIn_0 11 rfl rfl)
theorem dX3_isIn_14 : decode cX3_isIn 14 = .ok (.iconst 0, 1) := dk_3 (dk_at dksX3_isIn_0 14 rfl rfl)
theorem dX3_isIn_15 : decode cX3_isIn 15 = .ok (.ireturn, 1) := dk_172 (dk_at dksX3_isIn_0 15 rfl rfl)
abbrev cX3_isKind : ByteArray := prog_21_method_9_code
def yX3_isKind : MethodName := ⟨RX3, "isKind", "(C)Z"⟩
def dkwX3_isKind_2 : List UInt8 := [26, 16, 112, 160, 0, 7, 4, 167, 0, 4, 3, 172]
abbrev dktX3_isKind_2 : List UInt8 := dkwX3_isKind_2 ++ []
def dkwX3_isKind_1 : List UInt8 := [26, 16, 103, 159, 0, 27, 26, 16, 118, 159, 0, 21, 26, 16, 108, 159, 0, 15, 26, 16, 99, 159, 0, 9]
abbrev dktX3_isKind_1 : List UInt8 := dkwX3_isKind_1 ++ dktX3_isKind_2
def dkwX3_isKind_0 : List UInt8 := [26, 16, 115, 159, 0, 51, 26, 16, 119, 159, 0, 45, 26, 16, 100, 159, 0, 39, 26, 16, 102, 159, 0, 33]
abbrev dktX3_isKind_0 : List UInt8 := dkwX3_isKind_0 ++ dktX3_isKind_1
theorem dksX3_isKind_0 : cX3_isKind.data.toList.drop 0 = dktX3_isKind_0 := by decide +kernel
theorem dksX3_isKind_1 : cX3_isKind.data.toList.drop 24 = dktX3_isKind_1 := dk_seg dksX3_isKind_0 24 rfl rfl
theorem dksX3_isKind_2 : cX3_isKind.data.toList.drop 48 = dktX3_isKind_2 := dk_seg dksX3_isKind_1 24 rfl rfl
theorem dX3_isKind_0 : decode cX3_isKind 0 = .ok (.iload_n 0, 1) := dk_26 (dk_at dksX3_isKind_0 0 rfl rfl)
theorem dX3_isKind_1 : decode cX3_isKind 1 = .ok (.bipush 115, 2) := dk_16 115 (dk_at dksX3_isKind_0 1 rfl rfl)
theorem dX3_isKind_3 : decode cX3_isKind 3 = .ok (.if_icmp .eq 51, 3) := dk_159 0 51 (dk_at dksX3_isKind_0 3 rfl rfl)
theorem dX3_isKind_6 : decode cX3_isKind 6 = .ok (.iload_n 0, 1) := dk_26 (dk_at dksX3_isKind_0 6 rfl rfl)
theorem dX3_isKind_7 : decode cX3_isKind 7 = .ok (.bipush 119, 2) := dk_16 119 (dk_at dksX3_isKind_0 7 rfl rfl)
theorem dX3_isKind_9 : decode cX3_isKind 9 = .ok (.if_icmp .eq 45, 3) := dk_159 0 45 (dk_at dksX3_isKind_0 9 rfl rfl)
theorem dX3_isKind_12 : decode cX3_isKind 12 = .ok (.iload_n 0, 1) := dk_26 (dk_at dksX3_isKind_0 12 rfl rfl)
theorem dX3_isKind_13 : decode cX3_isKind 13 = .ok (.bipush 100, 2) := dk_16 100 (dk_at dksX3_isKind_0 13 rfl rfl)
theorem dX3_isKind_15 : decode cX3_isKind 15 = .ok (.if_icmp .eq 39, 3) := dk_159 0 39 (dk_at dksX3_isKind_0 15 rfl rfl)
theorem dX3_isKind_18 : decode cX3_isKind 18 = .ok (.iload_n 0, 1) := dk_26 (dk_at dksX3_isKind_0 18 rfl rfl)
theorem dX3_isKind_19 : decode cX3_isKind 19 = .ok (.bipush 102, 2) := dk_16 102 (dk_at dksX3_isKind_0 19 rfl rfl)
theorem dX3_isKind_21 : decode cX3_isKind 21 = .ok (.if_icmp .eq 33, 3) := dk_159 0 33 (dk_at dksX3_isKind_0 21 rfl rfl)
theorem dX3_isKind_24 : decode cX3_isKind 24 = .ok (.iload_n 0, 1) := dk_26 (dk_at dksX3_isKind_1 0 rfl rfl)
theorem dX3_isKind_25 : decode cX3_isKind 25 = .ok (.bipush 103, 2) := dk_16 103 (dk_at dksX3_isKind_1 1 rfl rfl)
theorem dX3_isKind_27 : decode cX3_isKind 27 = .ok (.if_icmp .eq 27, 3) := dk_159 0 27 (dk_at dksX3_isKind_1 3 rfl rfl)
theorem dX3_isKind_30 : decode cX3_isKind 30 = .ok (.iload_n 0, 1) := dk_26 (dk_at dksX3_isKind_1 6 rfl rfl)
theorem dX3_isKind_31 : decode cX3_isKind 31 = .ok (.bipush 118, 2) := dk_16 118 (dk_at dksX3_isKind_1 7 rfl rfl)
theorem dX3_isKind_33 : decode cX3_isKind 33 = .ok (.if_icmp .eq 21, 3) := dk_159 0 21 (dk_at dksX3_isKind_1 9 rfl rfl)
theorem dX3_isKind_36 : decode cX3_isKind 36 = .ok (.iload_n 0, 1) := dk_26 (dk_at dksX3_isKind_1 12 rfl rfl)
theorem dX3_isKind_37 : decode cX3_isKind 37 = .ok (.bipush 108, 2) := dk_16 108 (dk_at dksX3_isKind_1 13 rfl rfl)
theorem dX3_isKind_39 : decode cX3_isKind 39 = .ok (.if_icmp .eq 15, 3) := dk_159 0 15 (dk_at dksX3_isKind_1 15 rfl rfl)
theorem dX3_isKind_42 : decode cX3_isKind 42 = .ok (.iload_n 0, 1) := dk_26 (dk_at dksX3_isKind_1 18 rfl rfl)
theorem dX3_isKind_43 : decode cX3_isKind 43 = .ok (.bipush 99, 2) := dk_16 99 (dk_at dksX3_isKind_1 19 rfl rfl)
theorem dX3_isKind_45 : decode cX3_isKind 45 = .ok (.if_icmp .eq 9, 3) := dk_159 0 9 (dk_at dksX3_isKind_1 21 rfl rfl)
theorem dX3_isKind_48 : decode cX3_isKind 48 = .ok (.iload_n 0, 1) := dk_26 (dk_at dksX3_isKind_2 0 rfl rfl)
theorem dX3_isKind_49 : decode cX3_isKind 49 = .ok (.bipush 112, 2) := dk_16 112 (dk_at dksX3_isKind_2 1 rfl rfl)
theorem dX3_isKind_51 : decode cX3_isKind 51 = .ok (.if_icmp .ne 7, 3) := dk_160 0 7 (dk_at dksX3_isKind_2 3 rfl rfl)
theorem dX3_isKind_54 : decode cX3_isKind 54 = .ok (.iconst 1, 1) := dk_4 (dk_at dksX3_isKind_2 6 rfl rfl)
theorem dX3_isKind_55 : decode cX3_isKind 55 = .ok (.goto 4, 3) := dk_167 0 4 (dk_at dksX3_isKind_2 7 rfl rfl)
theorem dX3_isKind_58 : decode cX3_isKind 58 = .ok (.iconst 0, 1) := dk_3 (dk_at dksX3_isKind_2 10 rfl rfl)
theorem dX3_isKind_59 : decode cX3_isKind 59 = .ok (.ireturn, 1) := dk_172 (dk_at dksX3_isKind_2 11 rfl rfl)
abbrev cX3_isNumber : ByteArray := prog_21_method_10_code
def yX3_isNumber : MethodName := ⟨RX3, "isNumber", "(CI)Z"⟩
def dkwX3_isNumber_2 : List UInt8 := [160, 0, 8, 16, 7, 167, 0, 5, 16, 20, 62, 27, 28, 29, 184, 0, 96, 172]
abbrev dktX3_isNumber_2 : List UInt8 := dkwX3_isNumber_2 ++ []
def dkwX3_isNumber_1 : List UInt8 := [16, 99, 167, 0, 32, 26, 16, 100, 159, 0, 9, 26, 16, 102, 160, 0, 7, 8, 167, 0, 16, 26, 16, 112]
abbrev dktX3_isNumber_1 : List UInt8 := dkwX3_isNumber_1 ++ dktX3_isNumber_2
def dkwX3_isNumber_0 : List UInt8 := [26, 16, 119, 160, 0, 7, 4, 167, 0, 4, 3, 61, 26, 16, 115, 159, 0, 9, 26, 16, 99, 160, 0, 8]
abbrev dktX3_isNumber_0 : List UInt8 := dkwX3_isNumber_0 ++ dktX3_isNumber_1
theorem dksX3_isNumber_0 : cX3_isNumber.data.toList.drop 0 = dktX3_isNumber_0 := by decide +kernel
theorem dksX3_isNumber_1 : cX3_isNumber.data.toList.drop 24 = dktX3_isNumber_1 := dk_seg dksX3_isNumber_0 24 rfl rfl
theorem dksX3_isNumber_2 : cX3_isNumber.data.toList.drop 48 = dktX3_isNumber_2 := dk_seg dksX3_isNumber_1 24 rfl rfl
theorem dX3_isNumber_0 : decode cX3_isNumber 0 = .ok (.iload_n 0, 1) := dk_26 (dk_at dksX3_isNumber_0 0 rfl rfl)
theorem dX3_isNumber_1 : decode cX3_isNumber 1 = .ok (.bipush 119, 2) := dk_16 119 (dk_at dksX3_isNumber_0 1 rfl rfl)
theorem dX3_isNumber_3 : decode cX3_isNumber 3 = .ok (.if_icmp .ne 7, 3) := dk_160 0 7 (dk_at dksX3_isNumber_0 3 rfl rfl)
theorem dX3_isNumber_6 : decode cX3_isNumber 6 = .ok (.iconst 1, 1) := dk_4 (dk_at dksX3_isNumber_0 6 rfl rfl)
theorem dX3_isNumber_7 : decode cX3_isNumber 7 = .ok (.goto 4, 3) := dk_167 0 4 (dk_at dksX3_isNumber_0 7 rfl rfl)
theorem dX3_isNumber_10 : decode cX3_isNumber 10 = .ok (.iconst 0, 1) := dk_3 (dk_at dksX3_isNumber_0 10 rfl rfl)
theorem dX3_isNumber_11 : decode cX3_isNumber 11 = .ok (.istore_n 2, 1) := dk_61 (dk_at dksX3_isNumber_0 11 rfl rfl)
theorem dX3_isNumber_12 : decode cX3_isNumber 12 = .ok (.iload_n 0, 1) := dk_26 (dk_at dksX3_isNumber_0 12 rfl rfl)
theorem dX3_isNumber_13 : decode cX3_isNumber 13 = .ok (.bipush 115, 2) := dk_16 115 (dk_at dksX3_isNumber_0 13 rfl rfl)
theorem dX3_isNumber_15 : decode cX3_isNumber 15 = .ok (.if_icmp .eq 9, 3) := dk_159 0 9 (dk_at dksX3_isNumber_0 15 rfl rfl)
theorem dX3_isNumber_18 : decode cX3_isNumber 18 = .ok (.iload_n 0, 1) := dk_26 (dk_at dksX3_isNumber_0 18 rfl rfl)
theorem dX3_isNumber_19 : decode cX3_isNumber 19 = .ok (.bipush 99, 2) := dk_16 99 (dk_at dksX3_isNumber_0 19 rfl rfl)
theorem dX3_isNumber_21 : decode cX3_isNumber 21 = .ok (.if_icmp .ne 8, 3) := dk_160 0 8 (dk_at dksX3_isNumber_0 21 rfl rfl)
theorem dX3_isNumber_24 : decode cX3_isNumber 24 = .ok (.bipush 99, 2) := dk_16 99 (dk_at dksX3_isNumber_1 0 rfl rfl)
theorem dX3_isNumber_26 : decode cX3_isNumber 26 = .ok (.goto 32, 3) := dk_167 0 32 (dk_at dksX3_isNumber_1 2 rfl rfl)
theorem dX3_isNumber_29 : decode cX3_isNumber 29 = .ok (.iload_n 0, 1) := dk_26 (dk_at dksX3_isNumber_1 5 rfl rfl)
theorem dX3_isNumber_30 : decode cX3_isNumber 30 = .ok (.bipush 100, 2) := dk_16 100 (dk_at dksX3_isNumber_1 6 rfl rfl)
theorem dX3_isNumber_32 : decode cX3_isNumber 32 = .ok (.if_icmp .eq 9, 3) := dk_159 0 9 (dk_at dksX3_isNumber_1 8 rfl rfl)
theorem dX3_isNumber_35 : decode cX3_isNumber 35 = .ok (.iload_n 0, 1) := dk_26 (dk_at dksX3_isNumber_1 11 rfl rfl)
theorem dX3_isNumber_36 : decode cX3_isNumber 36 = .ok (.bipush 102, 2) := dk_16 102 (dk_at dksX3_isNumber_1 12 rfl rfl)
theorem dX3_isNumber_38 : decode cX3_isNumber 38 = .ok (.if_icmp .ne 7, 3) := dk_160 0 7 (dk_at dksX3_isNumber_1 14 rfl rfl)
theorem dX3_isNumber_41 : decode cX3_isNumber 41 = .ok (.iconst 5, 1) := dk_8 (dk_at dksX3_isNumber_1 17 rfl rfl)
theorem dX3_isNumber_42 : decode cX3_isNumber 42 = .ok (.goto 16, 3) := dk_167 0 16 (dk_at dksX3_isNumber_1 18 rfl rfl)
theorem dX3_isNumber_45 : decode cX3_isNumber 45 = .ok (.iload_n 0, 1) := dk_26 (dk_at dksX3_isNumber_1 21 rfl rfl)
theorem dX3_isNumber_46 : decode cX3_isNumber 46 = .ok (.bipush 112, 2) := dk_16 112 (dk_at dksX3_isNumber_1 22 rfl rfl)
theorem dX3_isNumber_48 : decode cX3_isNumber 48 = .ok (.if_icmp .ne 8, 3) := dk_160 0 8 (dk_at dksX3_isNumber_2 0 rfl rfl)
theorem dX3_isNumber_51 : decode cX3_isNumber 51 = .ok (.bipush 7, 2) := dk_16 7 (dk_at dksX3_isNumber_2 3 rfl rfl)
theorem dX3_isNumber_53 : decode cX3_isNumber 53 = .ok (.goto 5, 3) := dk_167 0 5 (dk_at dksX3_isNumber_2 5 rfl rfl)
theorem dX3_isNumber_56 : decode cX3_isNumber 56 = .ok (.bipush 20, 2) := dk_16 20 (dk_at dksX3_isNumber_2 8 rfl rfl)
theorem dX3_isNumber_58 : decode cX3_isNumber 58 = .ok (.istore_n 3, 1) := dk_62 (dk_at dksX3_isNumber_2 10 rfl rfl)
theorem dX3_isNumber_59 : decode cX3_isNumber 59 = .ok (.iload_n 1, 1) := dk_27 (dk_at dksX3_isNumber_2 11 rfl rfl)
theorem dX3_isNumber_60 : decode cX3_isNumber 60 = .ok (.iload_n 2, 1) := dk_28 (dk_at dksX3_isNumber_2 12 rfl rfl)
theorem dX3_isNumber_61 : decode cX3_isNumber 61 = .ok (.iload_n 3, 1) := dk_29 (dk_at dksX3_isNumber_2 13 rfl rfl)
theorem dX3_isNumber_62 : decode cX3_isNumber 62 = .ok (.invokestatic 96, 3) := dk_184 0 96 (dk_at dksX3_isNumber_2 14 rfl rfl)
theorem dX3_isNumber_65 : decode cX3_isNumber 65 = .ok (.ireturn, 1) := dk_172 (dk_at dksX3_isNumber_2 17 rfl rfl)
abbrev cX3_cut : ByteArray := prog_21_method_12_code
def yX3_cut : MethodName := ⟨RX3, "cut", "(II)C"⟩
def dkwX3_cut_5 : List UInt8 := [46, 79, 132, 4, 1, 167, 255, 205, 29, 172]
abbrev dktX3_cut_5 : List UInt8 := dkwX3_cut_5 ++ []
def dkwX3_cut_4 : List UInt8 := [42, 180, 0, 13, 21, 4, 4, 96, 46, 79, 42, 180, 0, 16, 21, 4, 42, 180, 0, 16, 21, 4, 4, 96]
abbrev dktX3_cut_4 : List UInt8 := dkwX3_cut_4 ++ dktX3_cut_5
def dkwX3_cut_3 : List UInt8 := [54, 4, 21, 4, 16, 20, 27, 104, 42, 180, 0, 7, 27, 46, 96, 162, 0, 41, 42, 180, 0, 13, 21, 4]
abbrev dktX3_cut_3 : List UInt8 := dkwX3_cut_3 ++ dktX3_cut_4
def dkwX3_cut_2 : List UInt8 := [27, 104, 28, 96, 46, 146, 62, 42, 180, 0, 7, 27, 92, 46, 4, 100, 79, 16, 20, 27, 104, 28, 96]
abbrev dktX3_cut_2 : List UInt8 := dkwX3_cut_2 ++ dktX3_cut_3
def dkwX3_cut_1 : List UInt8 := [154, 0, 7, 4, 167, 0, 4, 3, 4, 182, 0, 103, 153, 0, 6, 16, 45, 172, 42, 180, 0, 13, 16, 20]
abbrev dktX3_cut_1 : List UInt8 := dkwX3_cut_1 ++ dktX3_cut_2
def dkwX3_cut_0 : List UInt8 := [42, 42, 27, 182, 0, 107, 153, 0, 19, 28, 3, 42, 180, 0, 7, 27, 46, 4, 100, 184, 0, 96]
abbrev dktX3_cut_0 : List UInt8 := dkwX3_cut_0 ++ dktX3_cut_1
theorem dksX3_cut_0 : cX3_cut.data.toList.drop 0 = dktX3_cut_0 := by decide +kernel
theorem dksX3_cut_1 : cX3_cut.data.toList.drop 22 = dktX3_cut_1 := dk_seg dksX3_cut_0 22 rfl rfl
theorem dksX3_cut_2 : cX3_cut.data.toList.drop 46 = dktX3_cut_2 := dk_seg dksX3_cut_1 24 rfl rfl
theorem dksX3_cut_3 : cX3_cut.data.toList.drop 69 = dktX3_cut_3 := dk_seg dksX3_cut_2 23 rfl rfl
theorem dksX3_cut_4 : cX3_cut.data.toList.drop 93 = dktX3_cut_4 := dk_seg dksX3_cut_3 24 rfl rfl
theorem dksX3_cut_5 : cX3_cut.data.toList.drop 117 = dktX3_cut_5 := dk_seg dksX3_cut_4 24 rfl rfl
theorem dX3_cut_0 : decode cX3_cut 0 = .ok (.aload_n 0, 1) := dk_42 (dk_at dksX3_cut_0 0 rfl rfl)
theorem dX3_cut_1 : decode cX3_cut 1 = .ok (.aload_n 0, 1) := dk_42 (dk_at dksX3_cut_0 1 rfl rfl)
theorem dX3_cut_2 : decode cX3_cut 2 = .ok (.iload_n 1, 1) := dk_27 (dk_at dksX3_cut_0 2 rfl rfl)
theorem dX3_cut_3 : decode cX3_cut 3 = .ok (.invokevirtual 107, 3) := dk_182 0 107 (dk_at dksX3_cut_0 3 rfl rfl)
theorem dX3_cut_6 : decode cX3_cut 6 = .ok (.ifCond .eq 19, 3) := dk_153 0 19 (dk_at dksX3_cut_0 6 rfl rfl)
theorem dX3_cut_9 : decode cX3_cut 9 = .ok (.iload_n 2, 1) := dk_28 (dk_at dksX3_cut_0 9 rfl rfl)
theorem dX3_cut_10 : decode cX3_cut 10 = .ok (.iconst 0, 1) := dk_3 (dk_at dksX3_cut_0 10 rfl rfl)
theorem dX3_cut_11 : decode cX3_cut 11 = .ok (.aload_n 0, 1) := dk_42 (dk_at dksX3_cut_0 11 rfl rfl)
theorem dX3_cut_12 : decode cX3_cut 12 = .ok (.getfield 7, 3) := dk_180 0 7 (dk_at dksX3_cut_0 12 rfl rfl)
theorem dX3_cut_15 : decode cX3_cut 15 = .ok (.iload_n 1, 1) := dk_27 (dk_at dksX3_cut_0 15 rfl rfl)
theorem dX3_cut_16 : decode cX3_cut 16 = .ok (.iaload, 1) := dk_46 (dk_at dksX3_cut_0 16 rfl rfl)
theorem dX3_cut_17 : decode cX3_cut 17 = .ok (.iconst 1, 1) := dk_4 (dk_at dksX3_cut_0 17 rfl rfl)
theorem dX3_cut_18 : decode cX3_cut 18 = .ok (.isub, 1) := dk_100 (dk_at dksX3_cut_0 18 rfl rfl)
theorem dX3_cut_19 : decode cX3_cut 19 = .ok (.invokestatic 96, 3) := dk_184 0 96 (dk_at dksX3_cut_0 19 rfl rfl)
theorem dX3_cut_22 : decode cX3_cut 22 = .ok (.ifCond .ne 7, 3) := dk_154 0 7 (dk_at dksX3_cut_1 0 rfl rfl)
theorem dX3_cut_25 : decode cX3_cut 25 = .ok (.iconst 1, 1) := dk_4 (dk_at dksX3_cut_1 3 rfl rfl)
theorem dX3_cut_26 : decode cX3_cut 26 = .ok (.goto 4, 3) := dk_167 0 4 (dk_at dksX3_cut_1 4 rfl rfl)
theorem dX3_cut_29 : decode cX3_cut 29 = .ok (.iconst 0, 1) := dk_3 (dk_at dksX3_cut_1 7 rfl rfl)
theorem dX3_cut_30 : decode cX3_cut 30 = .ok (.iconst 1, 1) := dk_4 (dk_at dksX3_cut_1 8 rfl rfl)
theorem dX3_cut_31 : decode cX3_cut 31 = .ok (.invokevirtual 103, 3) := dk_182 0 103 (dk_at dksX3_cut_1 9 rfl rfl)
theorem dX3_cut_34 : decode cX3_cut 34 = .ok (.ifCond .eq 6, 3) := dk_153 0 6 (dk_at dksX3_cut_1 12 rfl rfl)
theorem dX3_cut_37 : decode cX3_cut 37 = .ok (.bipush 45, 2) := dk_16 45 (dk_at dksX3_cut_1 15 rfl rfl)
theorem dX3_cut_39 : decode cX3_cut 39 = .ok (.ireturn, 1) := dk_172 (dk_at dksX3_cut_1 17 rfl rfl)
theorem dX3_cut_40 : decode cX3_cut 40 = .ok (.aload_n 0, 1) := dk_42 (dk_at dksX3_cut_1 18 rfl rfl)
theorem dX3_cut_41 : decode cX3_cut 41 = .ok (.getfield 13, 3) := dk_180 0 13 (dk_at dksX3_cut_1 19 rfl rfl)
theorem dX3_cut_44 : decode cX3_cut 44 = .ok (.bipush 20, 2) := dk_16 20 (dk_at dksX3_cut_1 22 rfl rfl)
theorem dX3_cut_46 : decode cX3_cut 46 = .ok (.iload_n 1, 1) := dk_27 (dk_at dksX3_cut_2 0 rfl rfl)
theorem dX3_cut_47 : decode cX3_cut 47 = .ok (.imul, 1) := dk_104 (dk_at dksX3_cut_2 1 rfl rfl)
theorem dX3_cut_48 : decode cX3_cut 48 = .ok (.iload_n 2, 1) := dk_28 (dk_at dksX3_cut_2 2 rfl rfl)
theorem dX3_cut_49 : decode cX3_cut 49 = .ok (.iadd, 1) := dk_96 (dk_at dksX3_cut_2 3 rfl rfl)
theorem dX3_cut_50 : decode cX3_cut 50 = .ok (.iaload, 1) := dk_46 (dk_at dksX3_cut_2 4 rfl rfl)
theorem dX3_cut_51 : decode cX3_cut 51 = .ok (.i2c, 1) := dk_146 (dk_at dksX3_cut_2 5 rfl rfl)
theorem dX3_cut_52 : decode cX3_cut 52 = .ok (.istore_n 3, 1) := dk_62 (dk_at dksX3_cut_2 6 rfl rfl)
theorem dX3_cut_53 : decode cX3_cut 53 = .ok (.aload_n 0, 1) := dk_42 (dk_at dksX3_cut_2 7 rfl rfl)
theorem dX3_cut_54 : decode cX3_cut 54 = .ok (.getfield 7, 3) := dk_180 0 7 (dk_at dksX3_cut_2 8 rfl rfl)
theorem dX3_cut_57 : decode cX3_cut 57 = .ok (.iload_n 1, 1) := dk_27 (dk_at dksX3_cut_2 11 rfl rfl)
theorem dX3_cut_58 : decode cX3_cut 58 = .ok (.dup2, 1) := dk_92 (dk_at dksX3_cut_2 12 rfl rfl)
theorem dX3_cut_59 : decode cX3_cut 59 = .ok (.iaload, 1) := dk_46 (dk_at dksX3_cut_2 13 rfl rfl)
theorem dX3_cut_60 : decode cX3_cut 60 = .ok (.iconst 1, 1) := dk_4 (dk_at dksX3_cut_2 14 rfl rfl)
theorem dX3_cut_61 : decode cX3_cut 61 = .ok (.isub, 1) := dk_100 (dk_at dksX3_cut_2 15 rfl rfl)
theorem dX3_cut_62 : decode cX3_cut 62 = .ok (.iastore, 1) := dk_79 (dk_at dksX3_cut_2 16 rfl rfl)
theorem dX3_cut_63 : decode cX3_cut 63 = .ok (.bipush 20, 2) := dk_16 20 (dk_at dksX3_cut_2 17 rfl rfl)
theorem dX3_cut_65 : decode cX3_cut 65 = .ok (.iload_n 1, 1) := dk_27 (dk_at dksX3_cut_2 19 rfl rfl)
theorem dX3_cut_66 : decode cX3_cut 66 = .ok (.imul, 1) := dk_104 (dk_at dksX3_cut_2 20 rfl rfl)
theorem dX3_cut_67 : decode cX3_cut 67 = .ok (.iload_n 2, 1) := dk_28 (dk_at dksX3_cut_2 21 rfl rfl)
theorem dX3_cut_68 : decode cX3_cut 68 = .ok (.iadd, 1) := dk_96 (dk_at dksX3_cut_2 22 rfl rfl)
theorem dX3_cut_69 : decode cX3_cut 69 = .ok (.istore 4, 2) := dk_54 4 (dk_at dksX3_cut_3 0 rfl rfl)
theorem dX3_cut_71 : decode cX3_cut 71 = .ok (.iload 4, 2) := dk_21 4 (dk_at dksX3_cut_3 2 rfl rfl)
theorem dX3_cut_73 : decode cX3_cut 73 = .ok (.bipush 20, 2) := dk_16 20 (dk_at dksX3_cut_3 4 rfl rfl)
theorem dX3_cut_75 : decode cX3_cut 75 = .ok (.iload_n 1, 1) := dk_27 (dk_at dksX3_cut_3 6 rfl rfl)
theorem dX3_cut_76 : decode cX3_cut 76 = .ok (.imul, 1) := dk_104 (dk_at dksX3_cut_3 7 rfl rfl)
theorem dX3_cut_77 : decode cX3_cut 77 = .ok (.aload_n 0, 1) := dk_42 (dk_at dksX3_cut_3 8 rfl rfl)
theorem dX3_cut_78 : decode cX3_cut 78 = .ok (.getfield 7, 3) := dk_180 0 7 (dk_at dksX3_cut_3 9 rfl rfl)
theorem dX3_cut_81 : decode cX3_cut 81 = .ok (.iload_n 1, 1) := dk_27 (dk_at dksX3_cut_3 12 rfl rfl)
theorem dX3_cut_82 : decode cX3_cut 82 = .ok (.iaload, 1) := dk_46 (dk_at dksX3_cut_3 13 rfl rfl)
theorem dX3_cut_83 : decode cX3_cut 83 = .ok (.iadd, 1) := dk_96 (dk_at dksX3_cut_3 14 rfl rfl)
theorem dX3_cut_84 : decode cX3_cut 84 = .ok (.if_icmp .ge 41, 3) := dk_162 0 41 (dk_at dksX3_cut_3 15 rfl rfl)
theorem dX3_cut_87 : decode cX3_cut 87 = .ok (.aload_n 0, 1) := dk_42 (dk_at dksX3_cut_3 18 rfl rfl)
theorem dX3_cut_88 : decode cX3_cut 88 = .ok (.getfield 13, 3) := dk_180 0 13 (dk_at dksX3_cut_3 19 rfl rfl)
theorem dX3_cut_91 : decode cX3_cut 91 = .ok (.iload 4, 2) := dk_21 4 (dk_at dksX3_cut_3 22 rfl rfl)
theorem dX3_cut_93 : decode cX3_cut 93 = .ok (.aload_n 0, 1) := dk_42 (dk_at dksX3_cut_4 0 rfl rfl)
theorem dX3_cut_94 : decode cX3_cut 94 = .ok (.getfield 13, 3) := dk_180 0 13 (dk_at dksX3_cut_4 1 rfl rfl)
theorem dX3_cut_97 : decode cX3_cut 97 = .ok (.iload 4, 2) := dk_21 4 (dk_at dksX3_cut_4 4 rfl rfl)
theorem dX3_cut_99 : decode cX3_cut 99 = .ok (.iconst 1, 1) := dk_4 (dk_at dksX3_cut_4 6 rfl rfl)
theorem dX3_cut_100 : decode cX3_cut 100 = .ok (.iadd, 1) := dk_96 (dk_at dksX3_cut_4 7 rfl rfl)
theorem dX3_cut_101 : decode cX3_cut 101 = .ok (.iaload, 1) := dk_46 (dk_at dksX3_cut_4 8 rfl rfl)
theorem dX3_cut_102 : decode cX3_cut 102 = .ok (.iastore, 1) := dk_79 (dk_at dksX3_cut_4 9 rfl rfl)
theorem dX3_cut_103 : decode cX3_cut 103 = .ok (.aload_n 0, 1) := dk_42 (dk_at dksX3_cut_4 10 rfl rfl)
theorem dX3_cut_104 : decode cX3_cut 104 = .ok (.getfield 16, 3) := dk_180 0 16 (dk_at dksX3_cut_4 11 rfl rfl)
theorem dX3_cut_107 : decode cX3_cut 107 = .ok (.iload 4, 2) := dk_21 4 (dk_at dksX3_cut_4 14 rfl rfl)
theorem dX3_cut_109 : decode cX3_cut 109 = .ok (.aload_n 0, 1) := dk_42 (dk_at dksX3_cut_4 16 rfl rfl)
theorem dX3_cut_110 : decode cX3_cut 110 = .ok (.getfield 16, 3) := dk_180 0 16 (dk_at dksX3_cut_4 17 rfl rfl)
theorem dX3_cut_113 : decode cX3_cut 113 = .ok (.iload 4, 2) := dk_21 4 (dk_at dksX3_cut_4 20 rfl rfl)
theorem dX3_cut_115 : decode cX3_cut 115 = .ok (.iconst 1, 1) := dk_4 (dk_at dksX3_cut_4 22 rfl rfl)
theorem dX3_cut_116 : decode cX3_cut 116 = .ok (.iadd, 1) := dk_96 (dk_at dksX3_cut_4 23 rfl rfl)
theorem dX3_cut_117 : decode cX3_cut 117 = .ok (.iaload, 1) := dk_46 (dk_at dksX3_cut_5 0 rfl rfl)
theorem dX3_cut_118 : decode cX3_cut 118 = .ok (.iastore, 1) := dk_79 (dk_at dksX3_cut_5 1 rfl rfl)
theorem dX3_cut_119 : decode cX3_cut 119 = .ok (.iinc 4 1, 3) := dk_132 4 1 (dk_at dksX3_cut_5 2 rfl rfl)
theorem dX3_cut_122 : decode cX3_cut 122 = .ok (.goto (-51), 3) := dk_167 255 205 (dk_at dksX3_cut_5 5 rfl rfl)
theorem dX3_cut_125 : decode cX3_cut 125 = .ok (.iload_n 3, 1) := dk_29 (dk_at dksX3_cut_5 8 rfl rfl)
theorem dX3_cut_126 : decode cX3_cut 126 = .ok (.ireturn, 1) := dk_172 (dk_at dksX3_cut_5 9 rfl rfl)
abbrev cX3_lines : ByteArray := prog_21_method_13_code
def yX3_lines : MethodName := ⟨RX3, "lines", "(IC)I"⟩
def dkwX3_lines_3 : List UInt8 := [96, 46, 28, 160, 0, 7, 4, 167, 0, 4, 3, 96, 62, 132, 4, 1, 167, 255, 218, 29, 172]
abbrev dktX3_lines_3 : List UInt8 := dkwX3_lines_3 ++ []
def dkwX3_lines_2 : List UInt8 := [54, 4, 21, 4, 42, 180, 0, 7, 27, 46, 162, 0, 33, 29, 42, 180, 0, 13, 16, 20, 27, 104, 21, 4]
abbrev dktX3_lines_2 : List UInt8 := dkwX3_lines_2 ++ dktX3_lines_3
def dkwX3_lines_1 : List UInt8 := [184, 0, 111, 154, 0, 7, 4, 167, 0, 4, 3, 5, 182, 0, 103, 153, 0, 5, 3, 172, 3, 62, 3]
abbrev dktX3_lines_1 : List UInt8 := dkwX3_lines_1 ++ dktX3_lines_2
def dkwX3_lines_0 : List UInt8 := [42, 42, 27, 182, 0, 107, 154, 0, 7, 4, 167, 0, 4, 3, 4, 182, 0, 103, 154, 0, 23, 42, 28]
abbrev dktX3_lines_0 : List UInt8 := dkwX3_lines_0 ++ dktX3_lines_1
theorem dksX3_lines_0 : cX3_lines.data.toList.drop 0 = dktX3_lines_0 := by decide +kernel
theorem dksX3_lines_1 : cX3_lines.data.toList.drop 23 = dktX3_lines_1 := dk_seg dksX3_lines_0 23 rfl rfl
theorem dksX3_lines_2 : cX3_lines.data.toList.drop 46 = dktX3_lines_2 := dk_seg dksX3_lines_1 23 rfl rfl
theorem dksX3_lines_3 : cX3_lines.data.toList.drop 70 = dktX3_lines_3 := dk_seg dksX3_lines_2 24 rfl rfl
theorem dX3_lines_0 : decode cX3_lines 0 = .ok (.aload_n 0, 1) := dk_42 (dk_at dksX3_lines_0 0 rfl rfl)
theorem dX3_lines_1 : decode cX3_lines 1 = .ok (.aload_n 0, 1) := dk_42 (dk_at dksX3_lines_0 1 rfl rfl)
theorem dX3_lines_2 : decode cX3_lines 2 = .ok (.iload_n 1, 1) := dk_27 (dk_at dksX3_lines_0 2 rfl rfl)
theorem dX3_lines_3 : decode cX3_lines 3 = .ok (.invokevirtual 107, 3) := dk_182 0 107 (dk_at dksX3_lines_0 3 rfl rfl)
theorem dX3_lines_6 : decode cX3_lines 6 = .ok (.ifCond .ne 7, 3) := dk_154 0 7 (dk_at dksX3_lines_0 6 rfl rfl)
theorem dX3_lines_9 : decode cX3_lines 9 = .ok (.iconst 1, 1) := dk_4 (dk_at dksX3_lines_0 9 rfl rfl)
theorem dX3_lines_10 : decode cX3_lines 10 = .ok (.goto 4, 3) := dk_167 0 4 (dk_at dksX3_lines_0 10 rfl rfl)
theorem dX3_lines_13 : decode cX3_lines 13 = .ok (.iconst 0, 1) := dk_3 (dk_at dksX3_lines_0 13 rfl rfl)
theorem dX3_lines_14 : decode cX3_lines 14 = .ok (.iconst 1, 1) := dk_4 (dk_at dksX3_lines_0 14 rfl rfl)
theorem dX3_lines_15 : decode cX3_lines 15 = .ok (.invokevirtual 103, 3) := dk_182 0 103 (dk_at dksX3_lines_0 15 rfl rfl)
theorem dX3_lines_18 : decode cX3_lines 18 = .ok (.ifCond .ne 23, 3) := dk_154 0 23 (dk_at dksX3_lines_0 18 rfl rfl)
theorem dX3_lines_21 : decode cX3_lines 21 = .ok (.aload_n 0, 1) := dk_42 (dk_at dksX3_lines_0 21 rfl rfl)
theorem dX3_lines_22 : decode cX3_lines 22 = .ok (.iload_n 2, 1) := dk_28 (dk_at dksX3_lines_0 22 rfl rfl)
theorem dX3_lines_23 : decode cX3_lines 23 = .ok (.invokestatic 111, 3) := dk_184 0 111 (dk_at dksX3_lines_1 0 rfl rfl)
theorem dX3_lines_26 : decode cX3_lines 26 = .ok (.ifCond .ne 7, 3) := dk_154 0 7 (dk_at dksX3_lines_1 3 rfl rfl)
theorem dX3_lines_29 : decode cX3_lines 29 = .ok (.iconst 1, 1) := dk_4 (dk_at dksX3_lines_1 6 rfl rfl)
theorem dX3_lines_30 : decode cX3_lines 30 = .ok (.goto 4, 3) := dk_167 0 4 (dk_at dksX3_lines_1 7 rfl rfl)
theorem dX3_lines_33 : decode cX3_lines 33 = .ok (.iconst 0, 1) := dk_3 (dk_at dksX3_lines_1 10 rfl rfl)
theorem dX3_lines_34 : decode cX3_lines 34 = .ok (.iconst 2, 1) := dk_5 (dk_at dksX3_lines_1 11 rfl rfl)
theorem dX3_lines_35 : decode cX3_lines 35 = .ok (.invokevirtual 103, 3) := dk_182 0 103 (dk_at dksX3_lines_1 12 rfl rfl)
theorem dX3_lines_38 : decode cX3_lines 38 = .ok (.ifCond .eq 5, 3) := dk_153 0 5 (dk_at dksX3_lines_1 15 rfl rfl)
theorem dX3_lines_41 : decode cX3_lines 41 = .ok (.iconst 0, 1) := dk_3 (dk_at dksX3_lines_1 18 rfl rfl)
theorem dX3_lines_42 : decode cX3_lines 42 = .ok (.ireturn, 1) := dk_172 (dk_at dksX3_lines_1 19 rfl rfl)
theorem dX3_lines_43 : decode cX3_lines 43 = .ok (.iconst 0, 1) := dk_3 (dk_at dksX3_lines_1 20 rfl rfl)
theorem dX3_lines_44 : decode cX3_lines 44 = .ok (.istore_n 3, 1) := dk_62 (dk_at dksX3_lines_1 21 rfl rfl)
theorem dX3_lines_45 : decode cX3_lines 45 = .ok (.iconst 0, 1) := dk_3 (dk_at dksX3_lines_1 22 rfl rfl)
theorem dX3_lines_46 : decode cX3_lines 46 = .ok (.istore 4, 2) := dk_54 4 (dk_at dksX3_lines_2 0 rfl rfl)
theorem dX3_lines_48 : decode cX3_lines 48 = .ok (.iload 4, 2) := dk_21 4 (dk_at dksX3_lines_2 2 rfl rfl)
theorem dX3_lines_50 : decode cX3_lines 50 = .ok (.aload_n 0, 1) := dk_42 (dk_at dksX3_lines_2 4 rfl rfl)
theorem dX3_lines_51 : decode cX3_lines 51 = .ok (.getfield 7, 3) := dk_180 0 7 (dk_at dksX3_lines_2 5 rfl rfl)
theorem dX3_lines_54 : decode cX3_lines 54 = .ok (.iload_n 1, 1) := dk_27 (dk_at dksX3_lines_2 8 rfl rfl)
theorem dX3_lines_55 : decode cX3_lines 55 = .ok (.iaload, 1) := dk_46 (dk_at dksX3_lines_2 9 rfl rfl)
theorem dX3_lines_56 : decode cX3_lines 56 = .ok (.if_icmp .ge 33, 3) := dk_162 0 33 (dk_at dksX3_lines_2 10 rfl rfl)
theorem dX3_lines_59 : decode cX3_lines 59 = .ok (.iload_n 3, 1) := dk_29 (dk_at dksX3_lines_2 13 rfl rfl)
theorem dX3_lines_60 : decode cX3_lines 60 = .ok (.aload_n 0, 1) := dk_42 (dk_at dksX3_lines_2 14 rfl rfl)
theorem dX3_lines_61 : decode cX3_lines 61 = .ok (.getfield 13, 3) := dk_180 0 13 (dk_at dksX3_lines_2 15 rfl rfl)
theorem dX3_lines_64 : decode cX3_lines 64 = .ok (.bipush 20, 2) := dk_16 20 (dk_at dksX3_lines_2 18 rfl rfl)
theorem dX3_lines_66 : decode cX3_lines 66 = .ok (.iload_n 1, 1) := dk_27 (dk_at dksX3_lines_2 20 rfl rfl)
theorem dX3_lines_67 : decode cX3_lines 67 = .ok (.imul, 1) := dk_104 (dk_at dksX3_lines_2 21 rfl rfl)
theorem dX3_lines_68 : decode cX3_lines 68 = .ok (.iload 4, 2) := dk_21 4 (dk_at dksX3_lines_2 22 rfl rfl)
theorem dX3_lines_70 : decode cX3_lines 70 = .ok (.iadd, 1) := dk_96 (dk_at dksX3_lines_3 0 rfl rfl)
theorem dX3_lines_71 : decode cX3_lines 71 = .ok (.iaload, 1) := dk_46 (dk_at dksX3_lines_3 1 rfl rfl)
theorem dX3_lines_72 : decode cX3_lines 72 = .ok (.iload_n 2, 1) := dk_28 (dk_at dksX3_lines_3 2 rfl rfl)
theorem dX3_lines_73 : decode cX3_lines 73 = .ok (.if_icmp .ne 7, 3) := dk_160 0 7 (dk_at dksX3_lines_3 3 rfl rfl)
theorem dX3_lines_76 : decode cX3_lines 76 = .ok (.iconst 1, 1) := dk_4 (dk_at dksX3_lines_3 6 rfl rfl)
theorem dX3_lines_77 : decode cX3_lines 77 = .ok (.goto 4, 3) := dk_167 0 4 (dk_at dksX3_lines_3 7 rfl rfl)
theorem dX3_lines_80 : decode cX3_lines 80 = .ok (.iconst 0, 1) := dk_3 (dk_at dksX3_lines_3 10 rfl rfl)
theorem dX3_lines_81 : decode cX3_lines 81 = .ok (.iadd, 1) := dk_96 (dk_at dksX3_lines_3 11 rfl rfl)
theorem dX3_lines_82 : decode cX3_lines 82 = .ok (.istore_n 3, 1) := dk_62 (dk_at dksX3_lines_3 12 rfl rfl)
theorem dX3_lines_83 : decode cX3_lines 83 = .ok (.iinc 4 1, 3) := dk_132 4 1 (dk_at dksX3_lines_3 13 rfl rfl)
theorem dX3_lines_86 : decode cX3_lines 86 = .ok (.goto (-38), 3) := dk_167 255 218 (dk_at dksX3_lines_3 16 rfl rfl)
theorem dX3_lines_89 : decode cX3_lines 89 = .ok (.iload_n 3, 1) := dk_29 (dk_at dksX3_lines_3 19 rfl rfl)
theorem dX3_lines_90 : decode cX3_lines 90 = .ok (.ireturn, 1) := dk_172 (dk_at dksX3_lines_3 20 rfl rfl)
abbrev cX3_kiosk : ByteArray := prog_21_method_15_code
def yX3_kiosk : MethodName := ⟨RX3, "kiosk", "()I"⟩
def dkwX3_kiosk_1 : List UInt8 := [42, 89, 180, 0, 100, 4, 96, 181, 0, 100, 42, 180, 0, 100, 4, 100, 172]
abbrev dktX3_kiosk_1 : List UInt8 := dkwX3_kiosk_1 ++ []
def dkwX3_kiosk_0 : List UInt8 := [42, 42, 180, 0, 100, 16, 6, 160, 0, 7, 4, 167, 0, 4, 3, 4, 182, 0, 103, 153, 0, 5, 3, 172]
abbrev dktX3_kiosk_0 : List UInt8 := dkwX3_kiosk_0 ++ dktX3_kiosk_1
theorem dksX3_kiosk_0 : cX3_kiosk.data.toList.drop 0 = dktX3_kiosk_0 := by decide +kernel
theorem dksX3_kiosk_1 : cX3_kiosk.data.toList.drop 24 = dktX3_kiosk_1 := dk_seg dksX3_kiosk_0 24 rfl rfl
theorem dX3_kiosk_0 : decode cX3_kiosk 0 = .ok (.aload_n 0, 1) := dk_42 (dk_at dksX3_kiosk_0 0 rfl rfl)
theorem dX3_kiosk_1 : decode cX3_kiosk 1 = .ok (.aload_n 0, 1) := dk_42 (dk_at dksX3_kiosk_0 1 rfl rfl)
theorem dX3_kiosk_2 : decode cX3_kiosk 2 = .ok (.getfield 100, 3) := dk_180 0 100 (dk_at dksX3_kiosk_0 2 rfl rfl)
theorem dX3_kiosk_5 : decode cX3_kiosk 5 = .ok (.bipush 6, 2) := dk_16 6 (dk_at dksX3_kiosk_0 5 rfl rfl)
theorem dX3_kiosk_7 : decode cX3_kiosk 7 = .ok (.if_icmp .ne 7, 3) := dk_160 0 7 (dk_at dksX3_kiosk_0 7 rfl rfl)
theorem dX3_kiosk_10 : decode cX3_kiosk 10 = .ok (.iconst 1, 1) := dk_4 (dk_at dksX3_kiosk_0 10 rfl rfl)
theorem dX3_kiosk_11 : decode cX3_kiosk 11 = .ok (.goto 4, 3) := dk_167 0 4 (dk_at dksX3_kiosk_0 11 rfl rfl)
theorem dX3_kiosk_14 : decode cX3_kiosk 14 = .ok (.iconst 0, 1) := dk_3 (dk_at dksX3_kiosk_0 14 rfl rfl)
theorem dX3_kiosk_15 : decode cX3_kiosk 15 = .ok (.iconst 1, 1) := dk_4 (dk_at dksX3_kiosk_0 15 rfl rfl)
theorem dX3_kiosk_16 : decode cX3_kiosk 16 = .ok (.invokevirtual 103, 3) := dk_182 0 103 (dk_at dksX3_kiosk_0 16 rfl rfl)
theorem dX3_kiosk_19 : decode cX3_kiosk 19 = .ok (.ifCond .eq 5, 3) := dk_153 0 5 (dk_at dksX3_kiosk_0 19 rfl rfl)
theorem dX3_kiosk_22 : decode cX3_kiosk 22 = .ok (.iconst 0, 1) := dk_3 (dk_at dksX3_kiosk_0 22 rfl rfl)
theorem dX3_kiosk_23 : decode cX3_kiosk 23 = .ok (.ireturn, 1) := dk_172 (dk_at dksX3_kiosk_0 23 rfl rfl)
theorem dX3_kiosk_24 : decode cX3_kiosk 24 = .ok (.aload_n 0, 1) := dk_42 (dk_at dksX3_kiosk_1 0 rfl rfl)
theorem dX3_kiosk_25 : decode cX3_kiosk 25 = .ok (.dup, 1) := dk_89 (dk_at dksX3_kiosk_1 1 rfl rfl)
theorem dX3_kiosk_26 : decode cX3_kiosk 26 = .ok (.getfield 100, 3) := dk_180 0 100 (dk_at dksX3_kiosk_1 2 rfl rfl)
theorem dX3_kiosk_29 : decode cX3_kiosk 29 = .ok (.iconst 1, 1) := dk_4 (dk_at dksX3_kiosk_1 5 rfl rfl)
theorem dX3_kiosk_30 : decode cX3_kiosk 30 = .ok (.iadd, 1) := dk_96 (dk_at dksX3_kiosk_1 6 rfl rfl)
theorem dX3_kiosk_31 : decode cX3_kiosk 31 = .ok (.putfield 100, 3) := dk_181 0 100 (dk_at dksX3_kiosk_1 7 rfl rfl)
theorem dX3_kiosk_34 : decode cX3_kiosk 34 = .ok (.aload_n 0, 1) := dk_42 (dk_at dksX3_kiosk_1 10 rfl rfl)
theorem dX3_kiosk_35 : decode cX3_kiosk 35 = .ok (.getfield 100, 3) := dk_180 0 100 (dk_at dksX3_kiosk_1 11 rfl rfl)
theorem dX3_kiosk_38 : decode cX3_kiosk 38 = .ok (.iconst 1, 1) := dk_4 (dk_at dksX3_kiosk_1 14 rfl rfl)
theorem dX3_kiosk_39 : decode cX3_kiosk 39 = .ok (.isub, 1) := dk_100 (dk_at dksX3_kiosk_1 15 rfl rfl)
theorem dX3_kiosk_40 : decode cX3_kiosk 40 = .ok (.ireturn, 1) := dk_172 (dk_at dksX3_kiosk_1 16 rfl rfl)
abbrev cX3_start : ByteArray := prog_21_method_19_code
def yX3_start : MethodName := ⟨RX3, "start", "(II)I"⟩
def dkwX3_start_4 : List UInt8 := [182, 0, 130, 182, 0, 134, 42, 180, 0, 47, 27, 46, 172]
abbrev dktX3_start_4 : List UInt8 := dkwX3_start_4 ++ []
def dkwX3_start_3 : List UInt8 := [27, 3, 79, 42, 180, 0, 56, 27, 2, 79, 42, 28, 7, 27, 104, 182, 0, 126, 42, 27, 42, 27]
abbrev dktX3_start_3 : List UInt8 := dkwX3_start_3 ++ dktX3_start_4
def dkwX3_start_2 : List UInt8 := [180, 0, 34, 27, 4, 84, 42, 180, 0, 44, 27, 4, 79, 42, 180, 0, 50, 27, 3, 79, 42, 180, 0, 53]
abbrev dktX3_start_2 : List UInt8 := dkwX3_start_2 ++ dktX3_start_3
def dkwX3_start_1 : List UInt8 := [182, 0, 103, 154, 0, 17, 42, 42, 180, 0, 34, 27, 51, 5, 182, 0, 103, 153, 0, 5, 3, 172, 42]
abbrev dktX3_start_1 : List UInt8 := dkwX3_start_1 ++ dktX3_start_2
def dkwX3_start_0 : List UInt8 := [42, 42, 27, 182, 0, 123, 153, 0, 11, 42, 28, 182, 0, 107, 154, 0, 7, 4, 167, 0, 4, 3, 4]
abbrev dktX3_start_0 : List UInt8 := dkwX3_start_0 ++ dktX3_start_1
theorem dksX3_start_0 : cX3_start.data.toList.drop 0 = dktX3_start_0 := by decide +kernel
theorem dksX3_start_1 : cX3_start.data.toList.drop 23 = dktX3_start_1 := dk_seg dksX3_start_0 23 rfl rfl
theorem dksX3_start_2 : cX3_start.data.toList.drop 46 = dktX3_start_2 := dk_seg dksX3_start_1 23 rfl rfl
theorem dksX3_start_3 : cX3_start.data.toList.drop 70 = dktX3_start_3 := dk_seg dksX3_start_2 24 rfl rfl
theorem dksX3_start_4 : cX3_start.data.toList.drop 92 = dktX3_start_4 := dk_seg dksX3_start_3 22 rfl rfl
theorem dX3_start_0 : decode cX3_start 0 = .ok (.aload_n 0, 1) := dk_42 (dk_at dksX3_start_0 0 rfl rfl)
theorem dX3_start_1 : decode cX3_start 1 = .ok (.aload_n 0, 1) := dk_42 (dk_at dksX3_start_0 1 rfl rfl)
theorem dX3_start_2 : decode cX3_start 2 = .ok (.iload_n 1, 1) := dk_27 (dk_at dksX3_start_0 2 rfl rfl)
theorem dX3_start_3 : decode cX3_start 3 = .ok (.invokevirtual 123, 3) := dk_182 0 123 (dk_at dksX3_start_0 3 rfl rfl)
theorem dX3_start_6 : decode cX3_start 6 = .ok (.ifCond .eq 11, 3) := dk_153 0 11 (dk_at dksX3_start_0 6 rfl rfl)
theorem dX3_start_9 : decode cX3_start 9 = .ok (.aload_n 0, 1) := dk_42 (dk_at dksX3_start_0 9 rfl rfl)
theorem dX3_start_10 : decode cX3_start 10 = .ok (.iload_n 2, 1) := dk_28 (dk_at dksX3_start_0 10 rfl rfl)
theorem dX3_start_11 : decode cX3_start 11 = .ok (.invokevirtual 107, 3) := dk_182 0 107 (dk_at dksX3_start_0 11 rfl rfl)
theorem dX3_start_14 : decode cX3_start 14 = .ok (.ifCond .ne 7, 3) := dk_154 0 7 (dk_at dksX3_start_0 14 rfl rfl)
theorem dX3_start_17 : decode cX3_start 17 = .ok (.iconst 1, 1) := dk_4 (dk_at dksX3_start_0 17 rfl rfl)
theorem dX3_start_18 : decode cX3_start 18 = .ok (.goto 4, 3) := dk_167 0 4 (dk_at dksX3_start_0 18 rfl rfl)
theorem dX3_start_21 : decode cX3_start 21 = .ok (.iconst 0, 1) := dk_3 (dk_at dksX3_start_0 21 rfl rfl)
theorem dX3_start_22 : decode cX3_start 22 = .ok (.iconst 1, 1) := dk_4 (dk_at dksX3_start_0 22 rfl rfl)
theorem dX3_start_23 : decode cX3_start 23 = .ok (.invokevirtual 103, 3) := dk_182 0 103 (dk_at dksX3_start_1 0 rfl rfl)
theorem dX3_start_26 : decode cX3_start 26 = .ok (.ifCond .ne 17, 3) := dk_154 0 17 (dk_at dksX3_start_1 3 rfl rfl)
theorem dX3_start_29 : decode cX3_start 29 = .ok (.aload_n 0, 1) := dk_42 (dk_at dksX3_start_1 6 rfl rfl)
theorem dX3_start_30 : decode cX3_start 30 = .ok (.aload_n 0, 1) := dk_42 (dk_at dksX3_start_1 7 rfl rfl)
theorem dX3_start_31 : decode cX3_start 31 = .ok (.getfield 34, 3) := dk_180 0 34 (dk_at dksX3_start_1 8 rfl rfl)
theorem dX3_start_34 : decode cX3_start 34 = .ok (.iload_n 1, 1) := dk_27 (dk_at dksX3_start_1 11 rfl rfl)
theorem dX3_start_35 : decode cX3_start 35 = .ok (.baload, 1) := dk_51 (dk_at dksX3_start_1 12 rfl rfl)
theorem dX3_start_36 : decode cX3_start 36 = .ok (.iconst 2, 1) := dk_5 (dk_at dksX3_start_1 13 rfl rfl)
theorem dX3_start_37 : decode cX3_start 37 = .ok (.invokevirtual 103, 3) := dk_182 0 103 (dk_at dksX3_start_1 14 rfl rfl)
theorem dX3_start_40 : decode cX3_start 40 = .ok (.ifCond .eq 5, 3) := dk_153 0 5 (dk_at dksX3_start_1 17 rfl rfl)
theorem dX3_start_43 : decode cX3_start 43 = .ok (.iconst 0, 1) := dk_3 (dk_at dksX3_start_1 20 rfl rfl)
theorem dX3_start_44 : decode cX3_start 44 = .ok (.ireturn, 1) := dk_172 (dk_at dksX3_start_1 21 rfl rfl)
theorem dX3_start_45 : decode cX3_start 45 = .ok (.aload_n 0, 1) := dk_42 (dk_at dksX3_start_1 22 rfl rfl)
theorem dX3_start_46 : decode cX3_start 46 = .ok (.getfield 34, 3) := dk_180 0 34 (dk_at dksX3_start_2 0 rfl rfl)
theorem dX3_start_49 : decode cX3_start 49 = .ok (.iload_n 1, 1) := dk_27 (dk_at dksX3_start_2 3 rfl rfl)
theorem dX3_start_50 : decode cX3_start 50 = .ok (.iconst 1, 1) := dk_4 (dk_at dksX3_start_2 4 rfl rfl)
theorem dX3_start_51 : decode cX3_start 51 = .ok (.bastore, 1) := dk_84 (dk_at dksX3_start_2 5 rfl rfl)
theorem dX3_start_52 : decode cX3_start 52 = .ok (.aload_n 0, 1) := dk_42 (dk_at dksX3_start_2 6 rfl rfl)
theorem dX3_start_53 : decode cX3_start 53 = .ok (.getfield 44, 3) := dk_180 0 44 (dk_at dksX3_start_2 7 rfl rfl)
theorem dX3_start_56 : decode cX3_start 56 = .ok (.iload_n 1, 1) := dk_27 (dk_at dksX3_start_2 10 rfl rfl)
theorem dX3_start_57 : decode cX3_start 57 = .ok (.iconst 1, 1) := dk_4 (dk_at dksX3_start_2 11 rfl rfl)
theorem dX3_start_58 : decode cX3_start 58 = .ok (.iastore, 1) := dk_79 (dk_at dksX3_start_2 12 rfl rfl)
theorem dX3_start_59 : decode cX3_start 59 = .ok (.aload_n 0, 1) := dk_42 (dk_at dksX3_start_2 13 rfl rfl)
theorem dX3_start_60 : decode cX3_start 60 = .ok (.getfield 50, 3) := dk_180 0 50 (dk_at dksX3_start_2 14 rfl rfl)
theorem dX3_start_63 : decode cX3_start 63 = .ok (.iload_n 1, 1) := dk_27 (dk_at dksX3_start_2 17 rfl rfl)
theorem dX3_start_64 : decode cX3_start 64 = .ok (.iconst 0, 1) := dk_3 (dk_at dksX3_start_2 18 rfl rfl)
theorem dX3_start_65 : decode cX3_start 65 = .ok (.iastore, 1) := dk_79 (dk_at dksX3_start_2 19 rfl rfl)
theorem dX3_start_66 : decode cX3_start 66 = .ok (.aload_n 0, 1) := dk_42 (dk_at dksX3_start_2 20 rfl rfl)
theorem dX3_start_67 : decode cX3_start 67 = .ok (.getfield 53, 3) := dk_180 0 53 (dk_at dksX3_start_2 21 rfl rfl)
theorem dX3_start_70 : decode cX3_start 70 = .ok (.iload_n 1, 1) := dk_27 (dk_at dksX3_start_3 0 rfl rfl)
theorem dX3_start_71 : decode cX3_start 71 = .ok (.iconst 0, 1) := dk_3 (dk_at dksX3_start_3 1 rfl rfl)
theorem dX3_start_72 : decode cX3_start 72 = .ok (.iastore, 1) := dk_79 (dk_at dksX3_start_3 2 rfl rfl)
theorem dX3_start_73 : decode cX3_start 73 = .ok (.aload_n 0, 1) := dk_42 (dk_at dksX3_start_3 3 rfl rfl)
theorem dX3_start_74 : decode cX3_start 74 = .ok (.getfield 56, 3) := dk_180 0 56 (dk_at dksX3_start_3 4 rfl rfl)
theorem dX3_start_77 : decode cX3_start 77 = .ok (.iload_n 1, 1) := dk_27 (dk_at dksX3_start_3 7 rfl rfl)
theorem dX3_start_78 : decode cX3_start 78 = .ok (.iconst (-1), 1) := dk_2 (dk_at dksX3_start_3 8 rfl rfl)
theorem dX3_start_79 : decode cX3_start 79 = .ok (.iastore, 1) := dk_79 (dk_at dksX3_start_3 9 rfl rfl)
theorem dX3_start_80 : decode cX3_start 80 = .ok (.aload_n 0, 1) := dk_42 (dk_at dksX3_start_3 10 rfl rfl)
theorem dX3_start_81 : decode cX3_start 81 = .ok (.iload_n 2, 1) := dk_28 (dk_at dksX3_start_3 11 rfl rfl)
theorem dX3_start_82 : decode cX3_start 82 = .ok (.iconst 4, 1) := dk_7 (dk_at dksX3_start_3 12 rfl rfl)
theorem dX3_start_83 : decode cX3_start 83 = .ok (.iload_n 1, 1) := dk_27 (dk_at dksX3_start_3 13 rfl rfl)
theorem dX3_start_84 : decode cX3_start 84 = .ok (.imul, 1) := dk_104 (dk_at dksX3_start_3 14 rfl rfl)
theorem dX3_start_85 : decode cX3_start 85 = .ok (.invokevirtual 126, 3) := dk_182 0 126 (dk_at dksX3_start_3 15 rfl rfl)
theorem dX3_start_88 : decode cX3_start 88 = .ok (.aload_n 0, 1) := dk_42 (dk_at dksX3_start_3 18 rfl rfl)
theorem dX3_start_89 : decode cX3_start 89 = .ok (.iload_n 1, 1) := dk_27 (dk_at dksX3_start_3 19 rfl rfl)
theorem dX3_start_90 : decode cX3_start 90 = .ok (.aload_n 0, 1) := dk_42 (dk_at dksX3_start_3 20 rfl rfl)
theorem dX3_start_91 : decode cX3_start 91 = .ok (.iload_n 1, 1) := dk_27 (dk_at dksX3_start_3 21 rfl rfl)
theorem dX3_start_92 : decode cX3_start 92 = .ok (.invokevirtual 130, 3) := dk_182 0 130 (dk_at dksX3_start_4 0 rfl rfl)
theorem dX3_start_95 : decode cX3_start 95 = .ok (.invokevirtual 134, 3) := dk_182 0 134 (dk_at dksX3_start_4 3 rfl rfl)
theorem dX3_start_98 : decode cX3_start 98 = .ok (.aload_n 0, 1) := dk_42 (dk_at dksX3_start_4 6 rfl rfl)
theorem dX3_start_99 : decode cX3_start 99 = .ok (.getfield 47, 3) := dk_180 0 47 (dk_at dksX3_start_4 7 rfl rfl)
theorem dX3_start_102 : decode cX3_start 102 = .ok (.iload_n 1, 1) := dk_27 (dk_at dksX3_start_4 10 rfl rfl)
theorem dX3_start_103 : decode cX3_start 103 = .ok (.iaload, 1) := dk_46 (dk_at dksX3_start_4 11 rfl rfl)
theorem dX3_start_104 : decode cX3_start 104 = .ok (.ireturn, 1) := dk_172 (dk_at dksX3_start_4 12 rfl rfl)
abbrev cX3_isKiosk : ByteArray := prog_21_method_7_code
def yX3_isKiosk : MethodName := ⟨RX3, "isKiosk", "(I)Z"⟩
def dkwX3_isKiosk_0 : List UInt8 := [27, 3, 42, 180, 0, 100, 4, 100, 184, 0, 96, 172]
abbrev dktX3_isKiosk_0 : List UInt8 := dkwX3_isKiosk_0 ++ []
theorem dksX3_isKiosk_0 : cX3_isKiosk.data.toList.drop 0 = dktX3_isKiosk_0 := by decide +kernel
theorem dX3_isKiosk_0 : decode cX3_isKiosk 0 = .ok (.iload_n 1, 1) := dk_27 (dk_at dksX3_isKiosk_0 0 rfl rfl)
theorem dX3_isKiosk_1 : decode cX3_isKiosk 1 = .ok (.iconst 0, 1) := dk_3 (dk_at dksX3_isKiosk_0 1 rfl rfl)
theorem dX3_isKiosk_2 : decode cX3_isKiosk 2 = .ok (.aload_n 0, 1) := dk_42 (dk_at dksX3_isKiosk_0 2 rfl rfl)
theorem dX3_isKiosk_3 : decode cX3_isKiosk 3 = .ok (.getfield 100, 3) := dk_180 0 100 (dk_at dksX3_isKiosk_0 3 rfl rfl)
theorem dX3_isKiosk_6 : decode cX3_isKiosk 6 = .ok (.iconst 1, 1) := dk_4 (dk_at dksX3_isKiosk_0 6 rfl rfl)
theorem dX3_isKiosk_7 : decode cX3_isKiosk 7 = .ok (.isub, 1) := dk_100 (dk_at dksX3_isKiosk_0 7 rfl rfl)
theorem dX3_isKiosk_8 : decode cX3_isKiosk 8 = .ok (.invokestatic 96, 3) := dk_184 0 96 (dk_at dksX3_isKiosk_0 8 rfl rfl)
theorem dX3_isKiosk_11 : decode cX3_isKiosk 11 = .ok (.ireturn, 1) := dk_172 (dk_at dksX3_isKiosk_0 11 rfl rfl)
abbrev cX3_copies : ByteArray := prog_21_method_14_code
def yX3_copies : MethodName := ⟨RX3, "copies", "(II)V"⟩
def dkwX3_copies_3 : List UInt8 := [180, 0, 16, 16, 20, 27, 104, 29, 96, 46, 79, 132, 3, 1, 167, 255, 199, 177]
abbrev dktX3_copies_3 : List UInt8 := dkwX3_copies_3 ++ []
def dkwX3_copies_2 : List UInt8 := [42, 180, 0, 13, 16, 20, 27, 104, 29, 96, 46, 79, 42, 180, 0, 25, 16, 20, 28, 104, 29, 96, 42]
abbrev dktX3_copies_2 : List UInt8 := dkwX3_copies_2 ++ dktX3_copies_3
def dkwX3_copies_1 : List UInt8 := [46, 79, 3, 62, 29, 42, 180, 0, 7, 27, 46, 162, 0, 53, 42, 180, 0, 22, 16, 20, 28, 104, 29, 96]
abbrev dktX3_copies_1 : List UInt8 := dkwX3_copies_1 ++ dktX3_copies_2
def dkwX3_copies_0 : List UInt8 := [42, 180, 0, 28, 28, 27, 79, 42, 180, 0, 31, 28, 3, 79, 42, 180, 0, 19, 28, 42, 180, 0, 7, 27]
abbrev dktX3_copies_0 : List UInt8 := dkwX3_copies_0 ++ dktX3_copies_1
theorem dksX3_copies_0 : cX3_copies.data.toList.drop 0 = dktX3_copies_0 := by decide +kernel
theorem dksX3_copies_1 : cX3_copies.data.toList.drop 24 = dktX3_copies_1 := dk_seg dksX3_copies_0 24 rfl rfl
theorem dksX3_copies_2 : cX3_copies.data.toList.drop 48 = dktX3_copies_2 := dk_seg dksX3_copies_1 24 rfl rfl
theorem dksX3_copies_3 : cX3_copies.data.toList.drop 71 = dktX3_copies_3 := dk_seg dksX3_copies_2 23 rfl rfl
theorem dX3_copies_0 : decode cX3_copies 0 = .ok (.aload_n 0, 1) := dk_42 (dk_at dksX3_copies_0 0 rfl rfl)
theorem dX3_copies_1 : decode cX3_copies 1 = .ok (.getfield 28, 3) := dk_180 0 28 (dk_at dksX3_copies_0 1 rfl rfl)
theorem dX3_copies_4 : decode cX3_copies 4 = .ok (.iload_n 2, 1) := dk_28 (dk_at dksX3_copies_0 4 rfl rfl)
theorem dX3_copies_5 : decode cX3_copies 5 = .ok (.iload_n 1, 1) := dk_27 (dk_at dksX3_copies_0 5 rfl rfl)
theorem dX3_copies_6 : decode cX3_copies 6 = .ok (.iastore, 1) := dk_79 (dk_at dksX3_copies_0 6 rfl rfl)
theorem dX3_copies_7 : decode cX3_copies 7 = .ok (.aload_n 0, 1) := dk_42 (dk_at dksX3_copies_0 7 rfl rfl)
theorem dX3_copies_8 : decode cX3_copies 8 = .ok (.getfield 31, 3) := dk_180 0 31 (dk_at dksX3_copies_0 8 rfl rfl)
theorem dX3_copies_11 : decode cX3_copies 11 = .ok (.iload_n 2, 1) := dk_28 (dk_at dksX3_copies_0 11 rfl rfl)
theorem dX3_copies_12 : decode cX3_copies 12 = .ok (.iconst 0, 1) := dk_3 (dk_at dksX3_copies_0 12 rfl rfl)
theorem dX3_copies_13 : decode cX3_copies 13 = .ok (.iastore, 1) := dk_79 (dk_at dksX3_copies_0 13 rfl rfl)
theorem dX3_copies_14 : decode cX3_copies 14 = .ok (.aload_n 0, 1) := dk_42 (dk_at dksX3_copies_0 14 rfl rfl)
theorem dX3_copies_15 : decode cX3_copies 15 = .ok (.getfield 19, 3) := dk_180 0 19 (dk_at dksX3_copies_0 15 rfl rfl)
theorem dX3_copies_18 : decode cX3_copies 18 = .ok (.iload_n 2, 1) := dk_28 (dk_at dksX3_copies_0 18 rfl rfl)
theorem dX3_copies_19 : decode cX3_copies 19 = .ok (.aload_n 0, 1) := dk_42 (dk_at dksX3_copies_0 19 rfl rfl)
theorem dX3_copies_20 : decode cX3_copies 20 = .ok (.getfield 7, 3) := dk_180 0 7 (dk_at dksX3_copies_0 20 rfl rfl)
theorem dX3_copies_23 : decode cX3_copies 23 = .ok (.iload_n 1, 1) := dk_27 (dk_at dksX3_copies_0 23 rfl rfl)
theorem dX3_copies_24 : decode cX3_copies 24 = .ok (.iaload, 1) := dk_46 (dk_at dksX3_copies_1 0 rfl rfl)
theorem dX3_copies_25 : decode cX3_copies 25 = .ok (.iastore, 1) := dk_79 (dk_at dksX3_copies_1 1 rfl rfl)
theorem dX3_copies_26 : decode cX3_copies 26 = .ok (.iconst 0, 1) := dk_3 (dk_at dksX3_copies_1 2 rfl rfl)
theorem dX3_copies_27 : decode cX3_copies 27 = .ok (.istore_n 3, 1) := dk_62 (dk_at dksX3_copies_1 3 rfl rfl)
theorem dX3_copies_28 : decode cX3_copies 28 = .ok (.iload_n 3, 1) := dk_29 (dk_at dksX3_copies_1 4 rfl rfl)
theorem dX3_copies_29 : decode cX3_copies 29 = .ok (.aload_n 0, 1) := dk_42 (dk_at dksX3_copies_1 5 rfl rfl)
theorem dX3_copies_30 : decode cX3_copies 30 = .ok (.getfield 7, 3) := dk_180 0 7 (dk_at dksX3_copies_1 6 rfl rfl)
theorem dX3_copies_33 : decode cX3_copies 33 = .ok (.iload_n 1, 1) := dk_27 (dk_at dksX3_copies_1 9 rfl rfl)
theorem dX3_copies_34 : decode cX3_copies 34 = .ok (.iaload, 1) := dk_46 (dk_at dksX3_copies_1 10 rfl rfl)
theorem dX3_copies_35 : decode cX3_copies 35 = .ok (.if_icmp .ge 53, 3) := dk_162 0 53 (dk_at dksX3_copies_1 11 rfl rfl)
theorem dX3_copies_38 : decode cX3_copies 38 = .ok (.aload_n 0, 1) := dk_42 (dk_at dksX3_copies_1 14 rfl rfl)
theorem dX3_copies_39 : decode cX3_copies 39 = .ok (.getfield 22, 3) := dk_180 0 22 (dk_at dksX3_copies_1 15 rfl rfl)
theorem dX3_copies_42 : decode cX3_copies 42 = .ok (.bipush 20, 2) := dk_16 20 (dk_at dksX3_copies_1 18 rfl rfl)
theorem dX3_copies_44 : decode cX3_copies 44 = .ok (.iload_n 2, 1) := dk_28 (dk_at dksX3_copies_1 20 rfl rfl)
theorem dX3_copies_45 : decode cX3_copies 45 = .ok (.imul, 1) := dk_104 (dk_at dksX3_copies_1 21 rfl rfl)
theorem dX3_copies_46 : decode cX3_copies 46 = .ok (.iload_n 3, 1) := dk_29 (dk_at dksX3_copies_1 22 rfl rfl)
theorem dX3_copies_47 : decode cX3_copies 47 = .ok (.iadd, 1) := dk_96 (dk_at dksX3_copies_1 23 rfl rfl)
theorem dX3_copies_48 : decode cX3_copies 48 = .ok (.aload_n 0, 1) := dk_42 (dk_at dksX3_copies_2 0 rfl rfl)
theorem dX3_copies_49 : decode cX3_copies 49 = .ok (.getfield 13, 3) := dk_180 0 13 (dk_at dksX3_copies_2 1 rfl rfl)
theorem dX3_copies_52 : decode cX3_copies 52 = .ok (.bipush 20, 2) := dk_16 20 (dk_at dksX3_copies_2 4 rfl rfl)
theorem dX3_copies_54 : decode cX3_copies 54 = .ok (.iload_n 1, 1) := dk_27 (dk_at dksX3_copies_2 6 rfl rfl)
theorem dX3_copies_55 : decode cX3_copies 55 = .ok (.imul, 1) := dk_104 (dk_at dksX3_copies_2 7 rfl rfl)
theorem dX3_copies_56 : decode cX3_copies 56 = .ok (.iload_n 3, 1) := dk_29 (dk_at dksX3_copies_2 8 rfl rfl)
theorem dX3_copies_57 : decode cX3_copies 57 = .ok (.iadd, 1) := dk_96 (dk_at dksX3_copies_2 9 rfl rfl)
theorem dX3_copies_58 : decode cX3_copies 58 = .ok (.iaload, 1) := dk_46 (dk_at dksX3_copies_2 10 rfl rfl)
theorem dX3_copies_59 : decode cX3_copies 59 = .ok (.iastore, 1) := dk_79 (dk_at dksX3_copies_2 11 rfl rfl)
theorem dX3_copies_60 : decode cX3_copies 60 = .ok (.aload_n 0, 1) := dk_42 (dk_at dksX3_copies_2 12 rfl rfl)
theorem dX3_copies_61 : decode cX3_copies 61 = .ok (.getfield 25, 3) := dk_180 0 25 (dk_at dksX3_copies_2 13 rfl rfl)
theorem dX3_copies_64 : decode cX3_copies 64 = .ok (.bipush 20, 2) := dk_16 20 (dk_at dksX3_copies_2 16 rfl rfl)
theorem dX3_copies_66 : decode cX3_copies 66 = .ok (.iload_n 2, 1) := dk_28 (dk_at dksX3_copies_2 18 rfl rfl)
theorem dX3_copies_67 : decode cX3_copies 67 = .ok (.imul, 1) := dk_104 (dk_at dksX3_copies_2 19 rfl rfl)
theorem dX3_copies_68 : decode cX3_copies 68 = .ok (.iload_n 3, 1) := dk_29 (dk_at dksX3_copies_2 20 rfl rfl)
theorem dX3_copies_69 : decode cX3_copies 69 = .ok (.iadd, 1) := dk_96 (dk_at dksX3_copies_2 21 rfl rfl)
theorem dX3_copies_70 : decode cX3_copies 70 = .ok (.aload_n 0, 1) := dk_42 (dk_at dksX3_copies_2 22 rfl rfl)
theorem dX3_copies_71 : decode cX3_copies 71 = .ok (.getfield 16, 3) := dk_180 0 16 (dk_at dksX3_copies_3 0 rfl rfl)
theorem dX3_copies_74 : decode cX3_copies 74 = .ok (.bipush 20, 2) := dk_16 20 (dk_at dksX3_copies_3 3 rfl rfl)
theorem dX3_copies_76 : decode cX3_copies 76 = .ok (.iload_n 1, 1) := dk_27 (dk_at dksX3_copies_3 5 rfl rfl)
theorem dX3_copies_77 : decode cX3_copies 77 = .ok (.imul, 1) := dk_104 (dk_at dksX3_copies_3 6 rfl rfl)
theorem dX3_copies_78 : decode cX3_copies 78 = .ok (.iload_n 3, 1) := dk_29 (dk_at dksX3_copies_3 7 rfl rfl)
theorem dX3_copies_79 : decode cX3_copies 79 = .ok (.iadd, 1) := dk_96 (dk_at dksX3_copies_3 8 rfl rfl)
theorem dX3_copies_80 : decode cX3_copies 80 = .ok (.iaload, 1) := dk_46 (dk_at dksX3_copies_3 9 rfl rfl)
theorem dX3_copies_81 : decode cX3_copies 81 = .ok (.iastore, 1) := dk_79 (dk_at dksX3_copies_3 10 rfl rfl)
theorem dX3_copies_82 : decode cX3_copies 82 = .ok (.iinc 3 1, 3) := dk_132 3 1 (dk_at dksX3_copies_3 11 rfl rfl)
theorem dX3_copies_85 : decode cX3_copies 85 = .ok (.goto (-57), 3) := dk_167 255 199 (dk_at dksX3_copies_3 14 rfl rfl)
theorem dX3_copies_88 : decode cX3_copies 88 = .ok (.return_, 1) := dk_177 (dk_at dksX3_copies_3 17 rfl rfl)
abbrev cX3_nearest : ByteArray := prog_21_method_16_code
def yX3_nearest : MethodName := ⟨RX3, "nearest", "(I)I"⟩
def dkwX3_nearest_2 : List UInt8 := [132, 3, 1, 167, 255, 213, 28, 172]
abbrev dktX3_nearest_2 : List UInt8 := dkwX3_nearest_2 ++ []
def dkwX3_nearest_1 : List UInt8 := [155, 0, 16, 29, 27, 184, 0, 119, 28, 27, 184, 0, 119, 162, 0, 7, 29, 167, 0, 4, 28, 61]
abbrev dktX3_nearest_1 : List UInt8 := dkwX3_nearest_1 ++ dktX3_nearest_2
def dkwX3_nearest_0 : List UInt8 := [2, 61, 3, 62, 29, 42, 180, 0, 100, 162, 0, 41, 42, 180, 0, 41, 29, 51, 154, 0, 24, 28]
abbrev dktX3_nearest_0 : List UInt8 := dkwX3_nearest_0 ++ dktX3_nearest_1
theorem dksX3_nearest_0 : cX3_nearest.data.toList.drop 0 = dktX3_nearest_0 := by decide +kernel
theorem dksX3_nearest_1 : cX3_nearest.data.toList.drop 22 = dktX3_nearest_1 := dk_seg dksX3_nearest_0 22 rfl rfl
theorem dksX3_nearest_2 : cX3_nearest.data.toList.drop 44 = dktX3_nearest_2 := dk_seg dksX3_nearest_1 22 rfl rfl
theorem dX3_nearest_0 : decode cX3_nearest 0 = .ok (.iconst (-1), 1) := dk_2 (dk_at dksX3_nearest_0 0 rfl rfl)
theorem dX3_nearest_1 : decode cX3_nearest 1 = .ok (.istore_n 2, 1) := dk_61 (dk_at dksX3_nearest_0 1 rfl rfl)
theorem dX3_nearest_2 : decode cX3_nearest 2 = .ok (.iconst 0, 1) := dk_3 (dk_at dksX3_nearest_0 2 rfl rfl)
theorem dX3_nearest_3 : decode cX3_nearest 3 = .ok (.istore_n 3, 1) := dk_62 (dk_at dksX3_nearest_0 3 rfl rfl)
theorem dX3_nearest_4 : decode cX3_nearest 4 = .ok (.iload_n 3, 1) := dk_29 (dk_at dksX3_nearest_0 4 rfl rfl)
theorem dX3_nearest_5 : decode cX3_nearest 5 = .ok (.aload_n 0, 1) := dk_42 (dk_at dksX3_nearest_0 5 rfl rfl)
theorem dX3_nearest_6 : decode cX3_nearest 6 = .ok (.getfield 100, 3) := dk_180 0 100 (dk_at dksX3_nearest_0 6 rfl rfl)
theorem dX3_nearest_9 : decode cX3_nearest 9 = .ok (.if_icmp .ge 41, 3) := dk_162 0 41 (dk_at dksX3_nearest_0 9 rfl rfl)
theorem dX3_nearest_12 : decode cX3_nearest 12 = .ok (.aload_n 0, 1) := dk_42 (dk_at dksX3_nearest_0 12 rfl rfl)
theorem dX3_nearest_13 : decode cX3_nearest 13 = .ok (.getfield 41, 3) := dk_180 0 41 (dk_at dksX3_nearest_0 13 rfl rfl)
theorem dX3_nearest_16 : decode cX3_nearest 16 = .ok (.iload_n 3, 1) := dk_29 (dk_at dksX3_nearest_0 16 rfl rfl)
theorem dX3_nearest_17 : decode cX3_nearest 17 = .ok (.baload, 1) := dk_51 (dk_at dksX3_nearest_0 17 rfl rfl)
theorem dX3_nearest_18 : decode cX3_nearest 18 = .ok (.ifCond .ne 24, 3) := dk_154 0 24 (dk_at dksX3_nearest_0 18 rfl rfl)
theorem dX3_nearest_21 : decode cX3_nearest 21 = .ok (.iload_n 2, 1) := dk_28 (dk_at dksX3_nearest_0 21 rfl rfl)
theorem dX3_nearest_22 : decode cX3_nearest 22 = .ok (.ifCond .lt 16, 3) := dk_155 0 16 (dk_at dksX3_nearest_1 0 rfl rfl)
theorem dX3_nearest_25 : decode cX3_nearest 25 = .ok (.iload_n 3, 1) := dk_29 (dk_at dksX3_nearest_1 3 rfl rfl)
theorem dX3_nearest_26 : decode cX3_nearest 26 = .ok (.iload_n 1, 1) := dk_27 (dk_at dksX3_nearest_1 4 rfl rfl)
theorem dX3_nearest_27 : decode cX3_nearest 27 = .ok (.invokestatic 119, 3) := dk_184 0 119 (dk_at dksX3_nearest_1 5 rfl rfl)
theorem dX3_nearest_30 : decode cX3_nearest 30 = .ok (.iload_n 2, 1) := dk_28 (dk_at dksX3_nearest_1 8 rfl rfl)
theorem dX3_nearest_31 : decode cX3_nearest 31 = .ok (.iload_n 1, 1) := dk_27 (dk_at dksX3_nearest_1 9 rfl rfl)
theorem dX3_nearest_32 : decode cX3_nearest 32 = .ok (.invokestatic 119, 3) := dk_184 0 119 (dk_at dksX3_nearest_1 10 rfl rfl)
theorem dX3_nearest_35 : decode cX3_nearest 35 = .ok (.if_icmp .ge 7, 3) := dk_162 0 7 (dk_at dksX3_nearest_1 13 rfl rfl)
theorem dX3_nearest_38 : decode cX3_nearest 38 = .ok (.iload_n 3, 1) := dk_29 (dk_at dksX3_nearest_1 16 rfl rfl)
theorem dX3_nearest_39 : decode cX3_nearest 39 = .ok (.goto 4, 3) := dk_167 0 4 (dk_at dksX3_nearest_1 17 rfl rfl)
theorem dX3_nearest_42 : decode cX3_nearest 42 = .ok (.iload_n 2, 1) := dk_28 (dk_at dksX3_nearest_1 20 rfl rfl)
theorem dX3_nearest_43 : decode cX3_nearest 43 = .ok (.istore_n 2, 1) := dk_61 (dk_at dksX3_nearest_1 21 rfl rfl)
theorem dX3_nearest_44 : decode cX3_nearest 44 = .ok (.iinc 3 1, 3) := dk_132 3 1 (dk_at dksX3_nearest_2 0 rfl rfl)
theorem dX3_nearest_47 : decode cX3_nearest 47 = .ok (.goto (-43), 3) := dk_167 255 213 (dk_at dksX3_nearest_2 3 rfl rfl)
theorem dX3_nearest_50 : decode cX3_nearest 50 = .ok (.iload_n 2, 1) := dk_28 (dk_at dksX3_nearest_2 6 rfl rfl)
theorem dX3_nearest_51 : decode cX3_nearest 51 = .ok (.ireturn, 1) := dk_172 (dk_at dksX3_nearest_2 7 rfl rfl)
abbrev cX3_apart : ByteArray := prog_21_method_5_code
def yX3_apart : MethodName := ⟨RX3, "apart", "(II)I"⟩
def dkwX3_apart_0 : List UInt8 := [26, 27, 164, 0, 9, 26, 27, 100, 167, 0, 6, 27, 26, 100, 172]
abbrev dktX3_apart_0 : List UInt8 := dkwX3_apart_0 ++ []
theorem dksX3_apart_0 : cX3_apart.data.toList.drop 0 = dktX3_apart_0 := by decide +kernel
theorem dX3_apart_0 : decode cX3_apart 0 = .ok (.iload_n 0, 1) := dk_26 (dk_at dksX3_apart_0 0 rfl rfl)
theorem dX3_apart_1 : decode cX3_apart 1 = .ok (.iload_n 1, 1) := dk_27 (dk_at dksX3_apart_0 1 rfl rfl)
theorem dX3_apart_2 : decode cX3_apart 2 = .ok (.if_icmp .le 9, 3) := dk_164 0 9 (dk_at dksX3_apart_0 2 rfl rfl)
theorem dX3_apart_5 : decode cX3_apart 5 = .ok (.iload_n 0, 1) := dk_26 (dk_at dksX3_apart_0 5 rfl rfl)
theorem dX3_apart_6 : decode cX3_apart 6 = .ok (.iload_n 1, 1) := dk_27 (dk_at dksX3_apart_0 6 rfl rfl)
theorem dX3_apart_7 : decode cX3_apart 7 = .ok (.isub, 1) := dk_100 (dk_at dksX3_apart_0 7 rfl rfl)
theorem dX3_apart_8 : decode cX3_apart 8 = .ok (.goto 6, 3) := dk_167 0 6 (dk_at dksX3_apart_0 8 rfl rfl)
theorem dX3_apart_11 : decode cX3_apart 11 = .ok (.iload_n 1, 1) := dk_27 (dk_at dksX3_apart_0 11 rfl rfl)
theorem dX3_apart_12 : decode cX3_apart 12 = .ok (.iload_n 0, 1) := dk_26 (dk_at dksX3_apart_0 12 rfl rfl)
theorem dX3_apart_13 : decode cX3_apart 13 = .ok (.isub, 1) := dk_100 (dk_at dksX3_apart_0 13 rfl rfl)
theorem dX3_apart_14 : decode cX3_apart 14 = .ok (.ireturn, 1) := dk_172 (dk_at dksX3_apart_0 14 rfl rfl)
abbrev cX3_comesTo : ByteArray := prog_21_method_17_code
def yX3_comesTo : MethodName := ⟨RX3, "comesTo", "(II)V"⟩
def dkwX3_comesTo_3 : List UInt8 := [79, 177]
abbrev dktX3_comesTo_3 : List UInt8 := dkwX3_comesTo_3 ++ []
def dkwX3_comesTo_2 : List UInt8 := [46, 79, 132, 3, 255, 167, 255, 226, 42, 180, 0, 65, 29, 27, 79, 42, 180, 0, 68, 28, 92, 46, 4, 96]
abbrev dktX3_comesTo_2 : List UInt8 := dkwX3_comesTo_2 ++ dktX3_comesTo_3
def dkwX3_comesTo_1 : List UInt8 := [28, 160, 0, 31, 29, 16, 6, 28, 104, 164, 0, 23, 42, 180, 0, 65, 29, 42, 180, 0, 65, 29, 4, 100]
abbrev dktX3_comesTo_1 : List UInt8 := dkwX3_comesTo_1 ++ dktX3_comesTo_2
def dkwX3_comesTo_0 : List UInt8 := [42, 180, 0, 47, 27, 28, 79, 28, 155, 0, 65, 16, 6, 28, 104, 42, 180, 0, 68, 28, 46, 96, 62, 27]
abbrev dktX3_comesTo_0 : List UInt8 := dkwX3_comesTo_0 ++ dktX3_comesTo_1
theorem dksX3_comesTo_0 : cX3_comesTo.data.toList.drop 0 = dktX3_comesTo_0 := by decide +kernel
theorem dksX3_comesTo_1 : cX3_comesTo.data.toList.drop 24 = dktX3_comesTo_1 := dk_seg dksX3_comesTo_0 24 rfl rfl
theorem dksX3_comesTo_2 : cX3_comesTo.data.toList.drop 48 = dktX3_comesTo_2 := dk_seg dksX3_comesTo_1 24 rfl rfl
theorem dksX3_comesTo_3 : cX3_comesTo.data.toList.drop 72 = dktX3_comesTo_3 := dk_seg dksX3_comesTo_2 24 rfl rfl
theorem dX3_comesTo_0 : decode cX3_comesTo 0 = .ok (.aload_n 0, 1) := dk_42 (dk_at dksX3_comesTo_0 0 rfl rfl)
theorem dX3_comesTo_1 : decode cX3_comesTo 1 = .ok (.getfield 47, 3) := dk_180 0 47 (dk_at dksX3_comesTo_0 1 rfl rfl)
theorem dX3_comesTo_4 : decode cX3_comesTo 4 = .ok (.iload_n 1, 1) := dk_27 (dk_at dksX3_comesTo_0 4 rfl rfl)
theorem dX3_comesTo_5 : decode cX3_comesTo 5 = .ok (.iload_n 2, 1) := dk_28 (dk_at dksX3_comesTo_0 5 rfl rfl)
theorem dX3_comesTo_6 : decode cX3_comesTo 6 = .ok (.iastore, 1) := dk_79 (dk_at dksX3_comesTo_0 6 rfl rfl)
theorem dX3_comesTo_7 : decode cX3_comesTo 7 = .ok (.iload_n 2, 1) := dk_28 (dk_at dksX3_comesTo_0 7 rfl rfl)
theorem dX3_comesTo_8 : decode cX3_comesTo 8 = .ok (.ifCond .lt 65, 3) := dk_155 0 65 (dk_at dksX3_comesTo_0 8 rfl rfl)
theorem dX3_comesTo_11 : decode cX3_comesTo 11 = .ok (.bipush 6, 2) := dk_16 6 (dk_at dksX3_comesTo_0 11 rfl rfl)
theorem dX3_comesTo_13 : decode cX3_comesTo 13 = .ok (.iload_n 2, 1) := dk_28 (dk_at dksX3_comesTo_0 13 rfl rfl)
theorem dX3_comesTo_14 : decode cX3_comesTo 14 = .ok (.imul, 1) := dk_104 (dk_at dksX3_comesTo_0 14 rfl rfl)
theorem dX3_comesTo_15 : decode cX3_comesTo 15 = .ok (.aload_n 0, 1) := dk_42 (dk_at dksX3_comesTo_0 15 rfl rfl)
theorem dX3_comesTo_16 : decode cX3_comesTo 16 = .ok (.getfield 68, 3) := dk_180 0 68 (dk_at dksX3_comesTo_0 16 rfl rfl)
theorem dX3_comesTo_19 : decode cX3_comesTo 19 = .ok (.iload_n 2, 1) := dk_28 (dk_at dksX3_comesTo_0 19 rfl rfl)
theorem dX3_comesTo_20 : decode cX3_comesTo 20 = .ok (.iaload, 1) := dk_46 (dk_at dksX3_comesTo_0 20 rfl rfl)
theorem dX3_comesTo_21 : decode cX3_comesTo 21 = .ok (.iadd, 1) := dk_96 (dk_at dksX3_comesTo_0 21 rfl rfl)
theorem dX3_comesTo_22 : decode cX3_comesTo 22 = .ok (.istore_n 3, 1) := dk_62 (dk_at dksX3_comesTo_0 22 rfl rfl)
theorem dX3_comesTo_23 : decode cX3_comesTo 23 = .ok (.iload_n 1, 1) := dk_27 (dk_at dksX3_comesTo_0 23 rfl rfl)
theorem dX3_comesTo_24 : decode cX3_comesTo 24 = .ok (.iload_n 2, 1) := dk_28 (dk_at dksX3_comesTo_1 0 rfl rfl)
theorem dX3_comesTo_25 : decode cX3_comesTo 25 = .ok (.if_icmp .ne 31, 3) := dk_160 0 31 (dk_at dksX3_comesTo_1 1 rfl rfl)
theorem dX3_comesTo_28 : decode cX3_comesTo 28 = .ok (.iload_n 3, 1) := dk_29 (dk_at dksX3_comesTo_1 4 rfl rfl)
theorem dX3_comesTo_29 : decode cX3_comesTo 29 = .ok (.bipush 6, 2) := dk_16 6 (dk_at dksX3_comesTo_1 5 rfl rfl)
theorem dX3_comesTo_31 : decode cX3_comesTo 31 = .ok (.iload_n 2, 1) := dk_28 (dk_at dksX3_comesTo_1 7 rfl rfl)
theorem dX3_comesTo_32 : decode cX3_comesTo 32 = .ok (.imul, 1) := dk_104 (dk_at dksX3_comesTo_1 8 rfl rfl)
theorem dX3_comesTo_33 : decode cX3_comesTo 33 = .ok (.if_icmp .le 23, 3) := dk_164 0 23 (dk_at dksX3_comesTo_1 9 rfl rfl)
theorem dX3_comesTo_36 : decode cX3_comesTo 36 = .ok (.aload_n 0, 1) := dk_42 (dk_at dksX3_comesTo_1 12 rfl rfl)
theorem dX3_comesTo_37 : decode cX3_comesTo 37 = .ok (.getfield 65, 3) := dk_180 0 65 (dk_at dksX3_comesTo_1 13 rfl rfl)
theorem dX3_comesTo_40 : decode cX3_comesTo 40 = .ok (.iload_n 3, 1) := dk_29 (dk_at dksX3_comesTo_1 16 rfl rfl)
theorem dX3_comesTo_41 : decode cX3_comesTo 41 = .ok (.aload_n 0, 1) := dk_42 (dk_at dksX3_comesTo_1 17 rfl rfl)
theorem dX3_comesTo_42 : decode cX3_comesTo 42 = .ok (.getfield 65, 3) := dk_180 0 65 (dk_at dksX3_comesTo_1 18 rfl rfl)
theorem dX3_comesTo_45 : decode cX3_comesTo 45 = .ok (.iload_n 3, 1) := dk_29 (dk_at dksX3_comesTo_1 21 rfl rfl)
theorem dX3_comesTo_46 : decode cX3_comesTo 46 = .ok (.iconst 1, 1) := dk_4 (dk_at dksX3_comesTo_1 22 rfl rfl)
theorem dX3_comesTo_47 : decode cX3_comesTo 47 = .ok (.isub, 1) := dk_100 (dk_at dksX3_comesTo_1 23 rfl rfl)
theorem dX3_comesTo_48 : decode cX3_comesTo 48 = .ok (.iaload, 1) := dk_46 (dk_at dksX3_comesTo_2 0 rfl rfl)
theorem dX3_comesTo_49 : decode cX3_comesTo 49 = .ok (.iastore, 1) := dk_79 (dk_at dksX3_comesTo_2 1 rfl rfl)
theorem dX3_comesTo_50 : decode cX3_comesTo 50 = .ok (.iinc 3 (-1), 3) := dk_132 3 255 (dk_at dksX3_comesTo_2 2 rfl rfl)
theorem dX3_comesTo_53 : decode cX3_comesTo 53 = .ok (.goto (-30), 3) := dk_167 255 226 (dk_at dksX3_comesTo_2 5 rfl rfl)
theorem dX3_comesTo_56 : decode cX3_comesTo 56 = .ok (.aload_n 0, 1) := dk_42 (dk_at dksX3_comesTo_2 8 rfl rfl)
theorem dX3_comesTo_57 : decode cX3_comesTo 57 = .ok (.getfield 65, 3) := dk_180 0 65 (dk_at dksX3_comesTo_2 9 rfl rfl)
theorem dX3_comesTo_60 : decode cX3_comesTo 60 = .ok (.iload_n 3, 1) := dk_29 (dk_at dksX3_comesTo_2 12 rfl rfl)
theorem dX3_comesTo_61 : decode cX3_comesTo 61 = .ok (.iload_n 1, 1) := dk_27 (dk_at dksX3_comesTo_2 13 rfl rfl)
theorem dX3_comesTo_62 : decode cX3_comesTo 62 = .ok (.iastore, 1) := dk_79 (dk_at dksX3_comesTo_2 14 rfl rfl)
theorem dX3_comesTo_63 : decode cX3_comesTo 63 = .ok (.aload_n 0, 1) := dk_42 (dk_at dksX3_comesTo_2 15 rfl rfl)
theorem dX3_comesTo_64 : decode cX3_comesTo 64 = .ok (.getfield 68, 3) := dk_180 0 68 (dk_at dksX3_comesTo_2 16 rfl rfl)
theorem dX3_comesTo_67 : decode cX3_comesTo 67 = .ok (.iload_n 2, 1) := dk_28 (dk_at dksX3_comesTo_2 19 rfl rfl)
theorem dX3_comesTo_68 : decode cX3_comesTo 68 = .ok (.dup2, 1) := dk_92 (dk_at dksX3_comesTo_2 20 rfl rfl)
theorem dX3_comesTo_69 : decode cX3_comesTo 69 = .ok (.iaload, 1) := dk_46 (dk_at dksX3_comesTo_2 21 rfl rfl)
theorem dX3_comesTo_70 : decode cX3_comesTo 70 = .ok (.iconst 1, 1) := dk_4 (dk_at dksX3_comesTo_2 22 rfl rfl)
theorem dX3_comesTo_71 : decode cX3_comesTo 71 = .ok (.iadd, 1) := dk_96 (dk_at dksX3_comesTo_2 23 rfl rfl)
theorem dX3_comesTo_72 : decode cX3_comesTo 72 = .ok (.iastore, 1) := dk_79 (dk_at dksX3_comesTo_3 0 rfl rfl)
theorem dX3_comesTo_73 : decode cX3_comesTo 73 = .ok (.return_, 1) := dk_177 (dk_at dksX3_comesTo_3 1 rfl rfl)
abbrev cX3_stop : ByteArray := prog_21_method_24_code
def yX3_stop : MethodName := ⟨RX3, "stop", "(I)I"⟩
def dkwX3_stop_5 : List UInt8 := [182, 0, 150, 42, 180, 0, 34, 27, 3, 84, 42, 180, 0, 47, 27, 2, 79, 28, 172]
abbrev dktX3_stop_5 : List UInt8 := dkwX3_stop_5 ++ []
def dkwX3_stop_4 : List UInt8 := [180, 0, 71, 21, 4, 46, 27, 160, 0, 9, 42, 21, 4, 182, 0, 146, 132, 4, 1, 167, 255, 229, 42, 27]
abbrev dktX3_stop_4 : List UInt8 := dkwX3_stop_4 ++ dktX3_stop_5
def dkwX3_stop_3 : List UInt8 := [167, 0, 4, 2, 54, 5, 132, 4, 255, 167, 255, 219, 3, 54, 4, 21, 4, 16, 6, 162, 0, 26, 42]
abbrev dktX3_stop_3 : List UInt8 := dkwX3_stop_3 ++ dktX3_stop_4
def dkwX3_stop_2 : List UInt8 := [180, 0, 74, 16, 6, 29, 104, 21, 4, 96, 46, 27, 160, 0, 13, 42, 29, 21, 4, 182, 0, 137]
abbrev dktX3_stop_2 : List UInt8 := dkwX3_stop_2 ++ dktX3_stop_3
def dkwX3_stop_1 : List UInt8 := [156, 0, 7, 2, 167, 0, 11, 42, 180, 0, 77, 29, 46, 4, 100, 54, 4, 21, 4, 155, 0, 38, 42]
abbrev dktX3_stop_1 : List UInt8 := dkwX3_stop_1 ++ dktX3_stop_2
def dkwX3_stop_0 : List UInt8 := [42, 27, 182, 0, 140, 153, 0, 5, 3, 172, 42, 27, 182, 0, 143, 61, 42, 180, 0, 56, 27, 46, 62, 29]
abbrev dktX3_stop_0 : List UInt8 := dkwX3_stop_0 ++ dktX3_stop_1
theorem dksX3_stop_0 : cX3_stop.data.toList.drop 0 = dktX3_stop_0 := by decide +kernel
theorem dksX3_stop_1 : cX3_stop.data.toList.drop 24 = dktX3_stop_1 := dk_seg dksX3_stop_0 24 rfl rfl
theorem dksX3_stop_2 : cX3_stop.data.toList.drop 47 = dktX3_stop_2 := dk_seg dksX3_stop_1 23 rfl rfl
theorem dksX3_stop_3 : cX3_stop.data.toList.drop 69 = dktX3_stop_3 := dk_seg dksX3_stop_2 22 rfl rfl
theorem dksX3_stop_4 : cX3_stop.data.toList.drop 92 = dktX3_stop_4 := dk_seg dksX3_stop_3 23 rfl rfl
theorem dksX3_stop_5 : cX3_stop.data.toList.drop 116 = dktX3_stop_5 := dk_seg dksX3_stop_4 24 rfl rfl
theorem dX3_stop_0 : decode cX3_stop 0 = .ok (.aload_n 0, 1) := dk_42 (dk_at dksX3_stop_0 0 rfl rfl)
theorem dX3_stop_1 : decode cX3_stop 1 = .ok (.iload_n 1, 1) := dk_27 (dk_at dksX3_stop_0 1 rfl rfl)
theorem dX3_stop_2 : decode cX3_stop 2 = .ok (.invokevirtual 140, 3) := dk_182 0 140 (dk_at dksX3_stop_0 2 rfl rfl)
theorem dX3_stop_5 : decode cX3_stop 5 = .ok (.ifCond .eq 5, 3) := dk_153 0 5 (dk_at dksX3_stop_0 5 rfl rfl)
theorem dX3_stop_8 : decode cX3_stop 8 = .ok (.iconst 0, 1) := dk_3 (dk_at dksX3_stop_0 8 rfl rfl)
theorem dX3_stop_9 : decode cX3_stop 9 = .ok (.ireturn, 1) := dk_172 (dk_at dksX3_stop_0 9 rfl rfl)
theorem dX3_stop_10 : decode cX3_stop 10 = .ok (.aload_n 0, 1) := dk_42 (dk_at dksX3_stop_0 10 rfl rfl)
theorem dX3_stop_11 : decode cX3_stop 11 = .ok (.iload_n 1, 1) := dk_27 (dk_at dksX3_stop_0 11 rfl rfl)
theorem dX3_stop_12 : decode cX3_stop 12 = .ok (.invokevirtual 143, 3) := dk_182 0 143 (dk_at dksX3_stop_0 12 rfl rfl)
theorem dX3_stop_15 : decode cX3_stop 15 = .ok (.istore_n 2, 1) := dk_61 (dk_at dksX3_stop_0 15 rfl rfl)
theorem dX3_stop_16 : decode cX3_stop 16 = .ok (.aload_n 0, 1) := dk_42 (dk_at dksX3_stop_0 16 rfl rfl)
theorem dX3_stop_17 : decode cX3_stop 17 = .ok (.getfield 56, 3) := dk_180 0 56 (dk_at dksX3_stop_0 17 rfl rfl)
theorem dX3_stop_20 : decode cX3_stop 20 = .ok (.iload_n 1, 1) := dk_27 (dk_at dksX3_stop_0 20 rfl rfl)
theorem dX3_stop_21 : decode cX3_stop 21 = .ok (.iaload, 1) := dk_46 (dk_at dksX3_stop_0 21 rfl rfl)
theorem dX3_stop_22 : decode cX3_stop 22 = .ok (.istore_n 3, 1) := dk_62 (dk_at dksX3_stop_0 22 rfl rfl)
theorem dX3_stop_23 : decode cX3_stop 23 = .ok (.iload_n 3, 1) := dk_29 (dk_at dksX3_stop_0 23 rfl rfl)
theorem dX3_stop_24 : decode cX3_stop 24 = .ok (.ifCond .ge 7, 3) := dk_156 0 7 (dk_at dksX3_stop_1 0 rfl rfl)
theorem dX3_stop_27 : decode cX3_stop 27 = .ok (.iconst (-1), 1) := dk_2 (dk_at dksX3_stop_1 3 rfl rfl)
theorem dX3_stop_28 : decode cX3_stop 28 = .ok (.goto 11, 3) := dk_167 0 11 (dk_at dksX3_stop_1 4 rfl rfl)
theorem dX3_stop_31 : decode cX3_stop 31 = .ok (.aload_n 0, 1) := dk_42 (dk_at dksX3_stop_1 7 rfl rfl)
theorem dX3_stop_32 : decode cX3_stop 32 = .ok (.getfield 77, 3) := dk_180 0 77 (dk_at dksX3_stop_1 8 rfl rfl)
theorem dX3_stop_35 : decode cX3_stop 35 = .ok (.iload_n 3, 1) := dk_29 (dk_at dksX3_stop_1 11 rfl rfl)
theorem dX3_stop_36 : decode cX3_stop 36 = .ok (.iaload, 1) := dk_46 (dk_at dksX3_stop_1 12 rfl rfl)
theorem dX3_stop_37 : decode cX3_stop 37 = .ok (.iconst 1, 1) := dk_4 (dk_at dksX3_stop_1 13 rfl rfl)
theorem dX3_stop_38 : decode cX3_stop 38 = .ok (.isub, 1) := dk_100 (dk_at dksX3_stop_1 14 rfl rfl)
theorem dX3_stop_39 : decode cX3_stop 39 = .ok (.istore 4, 2) := dk_54 4 (dk_at dksX3_stop_1 15 rfl rfl)
theorem dX3_stop_41 : decode cX3_stop 41 = .ok (.iload 4, 2) := dk_21 4 (dk_at dksX3_stop_1 17 rfl rfl)
theorem dX3_stop_43 : decode cX3_stop 43 = .ok (.ifCond .lt 38, 3) := dk_155 0 38 (dk_at dksX3_stop_1 19 rfl rfl)
theorem dX3_stop_46 : decode cX3_stop 46 = .ok (.aload_n 0, 1) := dk_42 (dk_at dksX3_stop_1 22 rfl rfl)
theorem dX3_stop_47 : decode cX3_stop 47 = .ok (.getfield 74, 3) := dk_180 0 74 (dk_at dksX3_stop_2 0 rfl rfl)
theorem dX3_stop_50 : decode cX3_stop 50 = .ok (.bipush 6, 2) := dk_16 6 (dk_at dksX3_stop_2 3 rfl rfl)
theorem dX3_stop_52 : decode cX3_stop 52 = .ok (.iload_n 3, 1) := dk_29 (dk_at dksX3_stop_2 5 rfl rfl)
theorem dX3_stop_53 : decode cX3_stop 53 = .ok (.imul, 1) := dk_104 (dk_at dksX3_stop_2 6 rfl rfl)
theorem dX3_stop_54 : decode cX3_stop 54 = .ok (.iload 4, 2) := dk_21 4 (dk_at dksX3_stop_2 7 rfl rfl)
theorem dX3_stop_56 : decode cX3_stop 56 = .ok (.iadd, 1) := dk_96 (dk_at dksX3_stop_2 9 rfl rfl)
theorem dX3_stop_57 : decode cX3_stop 57 = .ok (.iaload, 1) := dk_46 (dk_at dksX3_stop_2 10 rfl rfl)
theorem dX3_stop_58 : decode cX3_stop 58 = .ok (.iload_n 1, 1) := dk_27 (dk_at dksX3_stop_2 11 rfl rfl)
theorem dX3_stop_59 : decode cX3_stop 59 = .ok (.if_icmp .ne 13, 3) := dk_160 0 13 (dk_at dksX3_stop_2 12 rfl rfl)
theorem dX3_stop_62 : decode cX3_stop 62 = .ok (.aload_n 0, 1) := dk_42 (dk_at dksX3_stop_2 15 rfl rfl)
theorem dX3_stop_63 : decode cX3_stop 63 = .ok (.iload_n 3, 1) := dk_29 (dk_at dksX3_stop_2 16 rfl rfl)
theorem dX3_stop_64 : decode cX3_stop 64 = .ok (.iload 4, 2) := dk_21 4 (dk_at dksX3_stop_2 17 rfl rfl)
theorem dX3_stop_66 : decode cX3_stop 66 = .ok (.invokevirtual 137, 3) := dk_182 0 137 (dk_at dksX3_stop_2 19 rfl rfl)
theorem dX3_stop_69 : decode cX3_stop 69 = .ok (.goto 4, 3) := dk_167 0 4 (dk_at dksX3_stop_3 0 rfl rfl)
theorem dX3_stop_72 : decode cX3_stop 72 = .ok (.iconst (-1), 1) := dk_2 (dk_at dksX3_stop_3 3 rfl rfl)
theorem dX3_stop_73 : decode cX3_stop 73 = .ok (.istore 5, 2) := dk_54 5 (dk_at dksX3_stop_3 4 rfl rfl)
theorem dX3_stop_75 : decode cX3_stop 75 = .ok (.iinc 4 (-1), 3) := dk_132 4 255 (dk_at dksX3_stop_3 6 rfl rfl)
theorem dX3_stop_78 : decode cX3_stop 78 = .ok (.goto (-37), 3) := dk_167 255 219 (dk_at dksX3_stop_3 9 rfl rfl)
theorem dX3_stop_81 : decode cX3_stop 81 = .ok (.iconst 0, 1) := dk_3 (dk_at dksX3_stop_3 12 rfl rfl)
theorem dX3_stop_82 : decode cX3_stop 82 = .ok (.istore 4, 2) := dk_54 4 (dk_at dksX3_stop_3 13 rfl rfl)
theorem dX3_stop_84 : decode cX3_stop 84 = .ok (.iload 4, 2) := dk_21 4 (dk_at dksX3_stop_3 15 rfl rfl)
theorem dX3_stop_86 : decode cX3_stop 86 = .ok (.bipush 6, 2) := dk_16 6 (dk_at dksX3_stop_3 17 rfl rfl)
theorem dX3_stop_88 : decode cX3_stop 88 = .ok (.if_icmp .ge 26, 3) := dk_162 0 26 (dk_at dksX3_stop_3 19 rfl rfl)
theorem dX3_stop_91 : decode cX3_stop 91 = .ok (.aload_n 0, 1) := dk_42 (dk_at dksX3_stop_3 22 rfl rfl)
theorem dX3_stop_92 : decode cX3_stop 92 = .ok (.getfield 71, 3) := dk_180 0 71 (dk_at dksX3_stop_4 0 rfl rfl)
theorem dX3_stop_95 : decode cX3_stop 95 = .ok (.iload 4, 2) := dk_21 4 (dk_at dksX3_stop_4 3 rfl rfl)
theorem dX3_stop_97 : decode cX3_stop 97 = .ok (.iaload, 1) := dk_46 (dk_at dksX3_stop_4 5 rfl rfl)
theorem dX3_stop_98 : decode cX3_stop 98 = .ok (.iload_n 1, 1) := dk_27 (dk_at dksX3_stop_4 6 rfl rfl)
theorem dX3_stop_99 : decode cX3_stop 99 = .ok (.if_icmp .ne 9, 3) := dk_160 0 9 (dk_at dksX3_stop_4 7 rfl rfl)
theorem dX3_stop_102 : decode cX3_stop 102 = .ok (.aload_n 0, 1) := dk_42 (dk_at dksX3_stop_4 10 rfl rfl)
theorem dX3_stop_103 : decode cX3_stop 103 = .ok (.iload 4, 2) := dk_21 4 (dk_at dksX3_stop_4 11 rfl rfl)
theorem dX3_stop_105 : decode cX3_stop 105 = .ok (.invokevirtual 146, 3) := dk_182 0 146 (dk_at dksX3_stop_4 13 rfl rfl)
theorem dX3_stop_108 : decode cX3_stop 108 = .ok (.iinc 4 1, 3) := dk_132 4 1 (dk_at dksX3_stop_4 16 rfl rfl)
theorem dX3_stop_111 : decode cX3_stop 111 = .ok (.goto (-27), 3) := dk_167 255 229 (dk_at dksX3_stop_4 19 rfl rfl)
theorem dX3_stop_114 : decode cX3_stop 114 = .ok (.aload_n 0, 1) := dk_42 (dk_at dksX3_stop_4 22 rfl rfl)
theorem dX3_stop_115 : decode cX3_stop 115 = .ok (.iload_n 1, 1) := dk_27 (dk_at dksX3_stop_4 23 rfl rfl)
theorem dX3_stop_116 : decode cX3_stop 116 = .ok (.invokevirtual 150, 3) := dk_182 0 150 (dk_at dksX3_stop_5 0 rfl rfl)
theorem dX3_stop_119 : decode cX3_stop 119 = .ok (.aload_n 0, 1) := dk_42 (dk_at dksX3_stop_5 3 rfl rfl)
theorem dX3_stop_120 : decode cX3_stop 120 = .ok (.getfield 34, 3) := dk_180 0 34 (dk_at dksX3_stop_5 4 rfl rfl)
theorem dX3_stop_123 : decode cX3_stop 123 = .ok (.iload_n 1, 1) := dk_27 (dk_at dksX3_stop_5 7 rfl rfl)
theorem dX3_stop_124 : decode cX3_stop 124 = .ok (.iconst 0, 1) := dk_3 (dk_at dksX3_stop_5 8 rfl rfl)
theorem dX3_stop_125 : decode cX3_stop 125 = .ok (.bastore, 1) := dk_84 (dk_at dksX3_stop_5 9 rfl rfl)
theorem dX3_stop_126 : decode cX3_stop 126 = .ok (.aload_n 0, 1) := dk_42 (dk_at dksX3_stop_5 10 rfl rfl)
theorem dX3_stop_127 : decode cX3_stop 127 = .ok (.getfield 47, 3) := dk_180 0 47 (dk_at dksX3_stop_5 11 rfl rfl)
theorem dX3_stop_130 : decode cX3_stop 130 = .ok (.iload_n 1, 1) := dk_27 (dk_at dksX3_stop_5 14 rfl rfl)
theorem dX3_stop_131 : decode cX3_stop 131 = .ok (.iconst (-1), 1) := dk_2 (dk_at dksX3_stop_5 15 rfl rfl)
theorem dX3_stop_132 : decode cX3_stop 132 = .ok (.iastore, 1) := dk_79 (dk_at dksX3_stop_5 16 rfl rfl)
theorem dX3_stop_133 : decode cX3_stop 133 = .ok (.iload_n 2, 1) := dk_28 (dk_at dksX3_stop_5 17 rfl rfl)
theorem dX3_stop_134 : decode cX3_stop 134 = .ok (.ireturn, 1) := dk_172 (dk_at dksX3_stop_5 18 rfl rfl)
abbrev cX3_isNone : ByteArray := prog_21_method_20_code
def yX3_isNone : MethodName := ⟨RX3, "isNone", "(I)Z"⟩
def dkwX3_isNone_2 : List UInt8 := [3, 172]
abbrev dktX3_isNone_2 : List UInt8 := dkwX3_isNone_2 ++ []
def dkwX3_isNone_1 : List UInt8 := [180, 0, 34, 27, 51, 154, 0, 7, 4, 167, 0, 4, 3, 5, 182, 0, 103, 153, 0, 7, 4, 167, 0, 4]
abbrev dktX3_isNone_1 : List UInt8 := dkwX3_isNone_1 ++ dktX3_isNone_2
def dkwX3_isNone_0 : List UInt8 := [42, 42, 27, 182, 0, 123, 154, 0, 7, 4, 167, 0, 4, 3, 4, 182, 0, 103, 154, 0, 25, 42, 42]
abbrev dktX3_isNone_0 : List UInt8 := dkwX3_isNone_0 ++ dktX3_isNone_1
theorem dksX3_isNone_0 : cX3_isNone.data.toList.drop 0 = dktX3_isNone_0 := by decide +kernel
theorem dksX3_isNone_1 : cX3_isNone.data.toList.drop 23 = dktX3_isNone_1 := dk_seg dksX3_isNone_0 23 rfl rfl
theorem dksX3_isNone_2 : cX3_isNone.data.toList.drop 47 = dktX3_isNone_2 := dk_seg dksX3_isNone_1 24 rfl rfl
theorem dX3_isNone_0 : decode cX3_isNone 0 = .ok (.aload_n 0, 1) := dk_42 (dk_at dksX3_isNone_0 0 rfl rfl)
theorem dX3_isNone_1 : decode cX3_isNone 1 = .ok (.aload_n 0, 1) := dk_42 (dk_at dksX3_isNone_0 1 rfl rfl)
theorem dX3_isNone_2 : decode cX3_isNone 2 = .ok (.iload_n 1, 1) := dk_27 (dk_at dksX3_isNone_0 2 rfl rfl)
theorem dX3_isNone_3 : decode cX3_isNone 3 = .ok (.invokevirtual 123, 3) := dk_182 0 123 (dk_at dksX3_isNone_0 3 rfl rfl)
theorem dX3_isNone_6 : decode cX3_isNone 6 = .ok (.ifCond .ne 7, 3) := dk_154 0 7 (dk_at dksX3_isNone_0 6 rfl rfl)
theorem dX3_isNone_9 : decode cX3_isNone 9 = .ok (.iconst 1, 1) := dk_4 (dk_at dksX3_isNone_0 9 rfl rfl)
theorem dX3_isNone_10 : decode cX3_isNone 10 = .ok (.goto 4, 3) := dk_167 0 4 (dk_at dksX3_isNone_0 10 rfl rfl)
theorem dX3_isNone_13 : decode cX3_isNone 13 = .ok (.iconst 0, 1) := dk_3 (dk_at dksX3_isNone_0 13 rfl rfl)
theorem dX3_isNone_14 : decode cX3_isNone 14 = .ok (.iconst 1, 1) := dk_4 (dk_at dksX3_isNone_0 14 rfl rfl)
theorem dX3_isNone_15 : decode cX3_isNone 15 = .ok (.invokevirtual 103, 3) := dk_182 0 103 (dk_at dksX3_isNone_0 15 rfl rfl)
theorem dX3_isNone_18 : decode cX3_isNone 18 = .ok (.ifCond .ne 25, 3) := dk_154 0 25 (dk_at dksX3_isNone_0 18 rfl rfl)
theorem dX3_isNone_21 : decode cX3_isNone 21 = .ok (.aload_n 0, 1) := dk_42 (dk_at dksX3_isNone_0 21 rfl rfl)
theorem dX3_isNone_22 : decode cX3_isNone 22 = .ok (.aload_n 0, 1) := dk_42 (dk_at dksX3_isNone_0 22 rfl rfl)
theorem dX3_isNone_23 : decode cX3_isNone 23 = .ok (.getfield 34, 3) := dk_180 0 34 (dk_at dksX3_isNone_1 0 rfl rfl)
theorem dX3_isNone_26 : decode cX3_isNone 26 = .ok (.iload_n 1, 1) := dk_27 (dk_at dksX3_isNone_1 3 rfl rfl)
theorem dX3_isNone_27 : decode cX3_isNone 27 = .ok (.baload, 1) := dk_51 (dk_at dksX3_isNone_1 4 rfl rfl)
theorem dX3_isNone_28 : decode cX3_isNone 28 = .ok (.ifCond .ne 7, 3) := dk_154 0 7 (dk_at dksX3_isNone_1 5 rfl rfl)
theorem dX3_isNone_31 : decode cX3_isNone 31 = .ok (.iconst 1, 1) := dk_4 (dk_at dksX3_isNone_1 8 rfl rfl)
theorem dX3_isNone_32 : decode cX3_isNone 32 = .ok (.goto 4, 3) := dk_167 0 4 (dk_at dksX3_isNone_1 9 rfl rfl)
theorem dX3_isNone_35 : decode cX3_isNone 35 = .ok (.iconst 0, 1) := dk_3 (dk_at dksX3_isNone_1 12 rfl rfl)
theorem dX3_isNone_36 : decode cX3_isNone 36 = .ok (.iconst 2, 1) := dk_5 (dk_at dksX3_isNone_1 13 rfl rfl)
theorem dX3_isNone_37 : decode cX3_isNone 37 = .ok (.invokevirtual 103, 3) := dk_182 0 103 (dk_at dksX3_isNone_1 14 rfl rfl)
theorem dX3_isNone_40 : decode cX3_isNone 40 = .ok (.ifCond .eq 7, 3) := dk_153 0 7 (dk_at dksX3_isNone_1 17 rfl rfl)
theorem dX3_isNone_43 : decode cX3_isNone 43 = .ok (.iconst 1, 1) := dk_4 (dk_at dksX3_isNone_1 20 rfl rfl)
theorem dX3_isNone_44 : decode cX3_isNone 44 = .ok (.goto 4, 3) := dk_167 0 4 (dk_at dksX3_isNone_1 21 rfl rfl)
theorem dX3_isNone_47 : decode cX3_isNone 47 = .ok (.iconst 0, 1) := dk_3 (dk_at dksX3_isNone_2 0 rfl rfl)
theorem dX3_isNone_48 : decode cX3_isNone 48 = .ok (.ireturn, 1) := dk_172 (dk_at dksX3_isNone_2 1 rfl rfl)
abbrev cX3_held : ByteArray := prog_21_method_21_code
def yX3_held : MethodName := ⟨RX3, "held", "(I)I"⟩
def dkwX3_held_1 : List UInt8 := [167, 0, 4, 3, 96, 61, 132, 3, 1, 167, 255, 229, 28, 172]
abbrev dktX3_held_1 : List UInt8 := dkwX3_held_1 ++ []
def dkwX3_held_0 : List UInt8 := [3, 61, 3, 62, 29, 16, 6, 162, 0, 27, 28, 42, 180, 0, 71, 29, 46, 27, 160, 0, 7, 4]
abbrev dktX3_held_0 : List UInt8 := dkwX3_held_0 ++ dktX3_held_1
theorem dksX3_held_0 : cX3_held.data.toList.drop 0 = dktX3_held_0 := by decide +kernel
theorem dksX3_held_1 : cX3_held.data.toList.drop 22 = dktX3_held_1 := dk_seg dksX3_held_0 22 rfl rfl
theorem dX3_held_0 : decode cX3_held 0 = .ok (.iconst 0, 1) := dk_3 (dk_at dksX3_held_0 0 rfl rfl)
theorem dX3_held_1 : decode cX3_held 1 = .ok (.istore_n 2, 1) := dk_61 (dk_at dksX3_held_0 1 rfl rfl)
theorem dX3_held_2 : decode cX3_held 2 = .ok (.iconst 0, 1) := dk_3 (dk_at dksX3_held_0 2 rfl rfl)
theorem dX3_held_3 : decode cX3_held 3 = .ok (.istore_n 3, 1) := dk_62 (dk_at dksX3_held_0 3 rfl rfl)
theorem dX3_held_4 : decode cX3_held 4 = .ok (.iload_n 3, 1) := dk_29 (dk_at dksX3_held_0 4 rfl rfl)
theorem dX3_held_5 : decode cX3_held 5 = .ok (.bipush 6, 2) := dk_16 6 (dk_at dksX3_held_0 5 rfl rfl)
theorem dX3_held_7 : decode cX3_held 7 = .ok (.if_icmp .ge 27, 3) := dk_162 0 27 (dk_at dksX3_held_0 7 rfl rfl)
theorem dX3_held_10 : decode cX3_held 10 = .ok (.iload_n 2, 1) := dk_28 (dk_at dksX3_held_0 10 rfl rfl)
theorem dX3_held_11 : decode cX3_held 11 = .ok (.aload_n 0, 1) := dk_42 (dk_at dksX3_held_0 11 rfl rfl)
theorem dX3_held_12 : decode cX3_held 12 = .ok (.getfield 71, 3) := dk_180 0 71 (dk_at dksX3_held_0 12 rfl rfl)
theorem dX3_held_15 : decode cX3_held 15 = .ok (.iload_n 3, 1) := dk_29 (dk_at dksX3_held_0 15 rfl rfl)
theorem dX3_held_16 : decode cX3_held 16 = .ok (.iaload, 1) := dk_46 (dk_at dksX3_held_0 16 rfl rfl)
theorem dX3_held_17 : decode cX3_held 17 = .ok (.iload_n 1, 1) := dk_27 (dk_at dksX3_held_0 17 rfl rfl)
theorem dX3_held_18 : decode cX3_held 18 = .ok (.if_icmp .ne 7, 3) := dk_160 0 7 (dk_at dksX3_held_0 18 rfl rfl)
theorem dX3_held_21 : decode cX3_held 21 = .ok (.iconst 1, 1) := dk_4 (dk_at dksX3_held_0 21 rfl rfl)
theorem dX3_held_22 : decode cX3_held 22 = .ok (.goto 4, 3) := dk_167 0 4 (dk_at dksX3_held_1 0 rfl rfl)
theorem dX3_held_25 : decode cX3_held 25 = .ok (.iconst 0, 1) := dk_3 (dk_at dksX3_held_1 3 rfl rfl)
theorem dX3_held_26 : decode cX3_held 26 = .ok (.iadd, 1) := dk_96 (dk_at dksX3_held_1 4 rfl rfl)
theorem dX3_held_27 : decode cX3_held 27 = .ok (.istore_n 2, 1) := dk_61 (dk_at dksX3_held_1 5 rfl rfl)
theorem dX3_held_28 : decode cX3_held 28 = .ok (.iinc 3 1, 3) := dk_132 3 1 (dk_at dksX3_held_1 6 rfl rfl)
theorem dX3_held_31 : decode cX3_held 31 = .ok (.goto (-27), 3) := dk_167 255 229 (dk_at dksX3_held_1 9 rfl rfl)
theorem dX3_held_34 : decode cX3_held 34 = .ok (.iload_n 2, 1) := dk_28 (dk_at dksX3_held_1 12 rfl rfl)
theorem dX3_held_35 : decode cX3_held 35 = .ok (.ireturn, 1) := dk_172 (dk_at dksX3_held_1 13 rfl rfl)
abbrev cX3_outOf : ByteArray := prog_21_method_22_code
def yX3_outOf : MethodName := ⟨RX3, "outOf", "(II)I"⟩
def dkwX3_outOf_3 : List UInt8 := [2, 79, 21, 4, 172]
abbrev dktX3_outOf_3 : List UInt8 := dkwX3_outOf_3 ++ []
def dkwX3_outOf_2 : List UInt8 := [21, 5, 42, 180, 0, 74, 21, 5, 4, 96, 46, 79, 132, 5, 1, 167, 255, 224, 42, 180, 0, 56, 21, 4]
abbrev dktX3_outOf_2 : List UInt8 := dkwX3_outOf_2 ++ dktX3_outOf_3
def dkwX3_outOf_1 : List UInt8 := [79, 29, 28, 96, 54, 5, 21, 5, 29, 42, 180, 0, 77, 27, 46, 96, 162, 0, 25, 42, 180, 0, 74]
abbrev dktX3_outOf_1 : List UInt8 := dkwX3_outOf_1 ++ dktX3_outOf_2
def dkwX3_outOf_0 : List UInt8 := [16, 6, 27, 104, 62, 42, 180, 0, 74, 29, 28, 96, 46, 54, 4, 42, 180, 0, 77, 27, 92, 46, 4, 100]
abbrev dktX3_outOf_0 : List UInt8 := dkwX3_outOf_0 ++ dktX3_outOf_1
theorem dksX3_outOf_0 : cX3_outOf.data.toList.drop 0 = dktX3_outOf_0 := by decide +kernel
theorem dksX3_outOf_1 : cX3_outOf.data.toList.drop 24 = dktX3_outOf_1 := dk_seg dksX3_outOf_0 24 rfl rfl
theorem dksX3_outOf_2 : cX3_outOf.data.toList.drop 47 = dktX3_outOf_2 := dk_seg dksX3_outOf_1 23 rfl rfl
theorem dksX3_outOf_3 : cX3_outOf.data.toList.drop 71 = dktX3_outOf_3 := dk_seg dksX3_outOf_2 24 rfl rfl
theorem dX3_outOf_0 : decode cX3_outOf 0 = .ok (.bipush 6, 2) := dk_16 6 (dk_at dksX3_outOf_0 0 rfl rfl)
theorem dX3_outOf_2 : decode cX3_outOf 2 = .ok (.iload_n 1, 1) := dk_27 (dk_at dksX3_outOf_0 2 rfl rfl)
theorem dX3_outOf_3 : decode cX3_outOf 3 = .ok (.imul, 1) := dk_104 (dk_at dksX3_outOf_0 3 rfl rfl)
theorem dX3_outOf_4 : decode cX3_outOf 4 = .ok (.istore_n 3, 1) := dk_62 (dk_at dksX3_outOf_0 4 rfl rfl)
theorem dX3_outOf_5 : decode cX3_outOf 5 = .ok (.aload_n 0, 1) := dk_42 (dk_at dksX3_outOf_0 5 rfl rfl)
theorem dX3_outOf_6 : decode cX3_outOf 6 = .ok (.getfield 74, 3) := dk_180 0 74 (dk_at dksX3_outOf_0 6 rfl rfl)
theorem dX3_outOf_9 : decode cX3_outOf 9 = .ok (.iload_n 3, 1) := dk_29 (dk_at dksX3_outOf_0 9 rfl rfl)
theorem dX3_outOf_10 : decode cX3_outOf 10 = .ok (.iload_n 2, 1) := dk_28 (dk_at dksX3_outOf_0 10 rfl rfl)
theorem dX3_outOf_11 : decode cX3_outOf 11 = .ok (.iadd, 1) := dk_96 (dk_at dksX3_outOf_0 11 rfl rfl)
theorem dX3_outOf_12 : decode cX3_outOf 12 = .ok (.iaload, 1) := dk_46 (dk_at dksX3_outOf_0 12 rfl rfl)
theorem dX3_outOf_13 : decode cX3_outOf 13 = .ok (.istore 4, 2) := dk_54 4 (dk_at dksX3_outOf_0 13 rfl rfl)
theorem dX3_outOf_15 : decode cX3_outOf 15 = .ok (.aload_n 0, 1) := dk_42 (dk_at dksX3_outOf_0 15 rfl rfl)
theorem dX3_outOf_16 : decode cX3_outOf 16 = .ok (.getfield 77, 3) := dk_180 0 77 (dk_at dksX3_outOf_0 16 rfl rfl)
theorem dX3_outOf_19 : decode cX3_outOf 19 = .ok (.iload_n 1, 1) := dk_27 (dk_at dksX3_outOf_0 19 rfl rfl)
theorem dX3_outOf_20 : decode cX3_outOf 20 = .ok (.dup2, 1) := dk_92 (dk_at dksX3_outOf_0 20 rfl rfl)
theorem dX3_outOf_21 : decode cX3_outOf 21 = .ok (.iaload, 1) := dk_46 (dk_at dksX3_outOf_0 21 rfl rfl)
theorem dX3_outOf_22 : decode cX3_outOf 22 = .ok (.iconst 1, 1) := dk_4 (dk_at dksX3_outOf_0 22 rfl rfl)
theorem dX3_outOf_23 : decode cX3_outOf 23 = .ok (.isub, 1) := dk_100 (dk_at dksX3_outOf_0 23 rfl rfl)
theorem dX3_outOf_24 : decode cX3_outOf 24 = .ok (.iastore, 1) := dk_79 (dk_at dksX3_outOf_1 0 rfl rfl)
theorem dX3_outOf_25 : decode cX3_outOf 25 = .ok (.iload_n 3, 1) := dk_29 (dk_at dksX3_outOf_1 1 rfl rfl)
theorem dX3_outOf_26 : decode cX3_outOf 26 = .ok (.iload_n 2, 1) := dk_28 (dk_at dksX3_outOf_1 2 rfl rfl)
theorem dX3_outOf_27 : decode cX3_outOf 27 = .ok (.iadd, 1) := dk_96 (dk_at dksX3_outOf_1 3 rfl rfl)
theorem dX3_outOf_28 : decode cX3_outOf 28 = .ok (.istore 5, 2) := dk_54 5 (dk_at dksX3_outOf_1 4 rfl rfl)
theorem dX3_outOf_30 : decode cX3_outOf 30 = .ok (.iload 5, 2) := dk_21 5 (dk_at dksX3_outOf_1 6 rfl rfl)
theorem dX3_outOf_32 : decode cX3_outOf 32 = .ok (.iload_n 3, 1) := dk_29 (dk_at dksX3_outOf_1 8 rfl rfl)
theorem dX3_outOf_33 : decode cX3_outOf 33 = .ok (.aload_n 0, 1) := dk_42 (dk_at dksX3_outOf_1 9 rfl rfl)
theorem dX3_outOf_34 : decode cX3_outOf 34 = .ok (.getfield 77, 3) := dk_180 0 77 (dk_at dksX3_outOf_1 10 rfl rfl)
theorem dX3_outOf_37 : decode cX3_outOf 37 = .ok (.iload_n 1, 1) := dk_27 (dk_at dksX3_outOf_1 13 rfl rfl)
theorem dX3_outOf_38 : decode cX3_outOf 38 = .ok (.iaload, 1) := dk_46 (dk_at dksX3_outOf_1 14 rfl rfl)
theorem dX3_outOf_39 : decode cX3_outOf 39 = .ok (.iadd, 1) := dk_96 (dk_at dksX3_outOf_1 15 rfl rfl)
theorem dX3_outOf_40 : decode cX3_outOf 40 = .ok (.if_icmp .ge 25, 3) := dk_162 0 25 (dk_at dksX3_outOf_1 16 rfl rfl)
theorem dX3_outOf_43 : decode cX3_outOf 43 = .ok (.aload_n 0, 1) := dk_42 (dk_at dksX3_outOf_1 19 rfl rfl)
theorem dX3_outOf_44 : decode cX3_outOf 44 = .ok (.getfield 74, 3) := dk_180 0 74 (dk_at dksX3_outOf_1 20 rfl rfl)
theorem dX3_outOf_47 : decode cX3_outOf 47 = .ok (.iload 5, 2) := dk_21 5 (dk_at dksX3_outOf_2 0 rfl rfl)
theorem dX3_outOf_49 : decode cX3_outOf 49 = .ok (.aload_n 0, 1) := dk_42 (dk_at dksX3_outOf_2 2 rfl rfl)
theorem dX3_outOf_50 : decode cX3_outOf 50 = .ok (.getfield 74, 3) := dk_180 0 74 (dk_at dksX3_outOf_2 3 rfl rfl)
theorem dX3_outOf_53 : decode cX3_outOf 53 = .ok (.iload 5, 2) := dk_21 5 (dk_at dksX3_outOf_2 6 rfl rfl)
theorem dX3_outOf_55 : decode cX3_outOf 55 = .ok (.iconst 1, 1) := dk_4 (dk_at dksX3_outOf_2 8 rfl rfl)
theorem dX3_outOf_56 : decode cX3_outOf 56 = .ok (.iadd, 1) := dk_96 (dk_at dksX3_outOf_2 9 rfl rfl)
theorem dX3_outOf_57 : decode cX3_outOf 57 = .ok (.iaload, 1) := dk_46 (dk_at dksX3_outOf_2 10 rfl rfl)
theorem dX3_outOf_58 : decode cX3_outOf 58 = .ok (.iastore, 1) := dk_79 (dk_at dksX3_outOf_2 11 rfl rfl)
theorem dX3_outOf_59 : decode cX3_outOf 59 = .ok (.iinc 5 1, 3) := dk_132 5 1 (dk_at dksX3_outOf_2 12 rfl rfl)
theorem dX3_outOf_62 : decode cX3_outOf 62 = .ok (.goto (-32), 3) := dk_167 255 224 (dk_at dksX3_outOf_2 15 rfl rfl)
theorem dX3_outOf_65 : decode cX3_outOf 65 = .ok (.aload_n 0, 1) := dk_42 (dk_at dksX3_outOf_2 18 rfl rfl)
theorem dX3_outOf_66 : decode cX3_outOf 66 = .ok (.getfield 56, 3) := dk_180 0 56 (dk_at dksX3_outOf_2 19 rfl rfl)
theorem dX3_outOf_69 : decode cX3_outOf 69 = .ok (.iload 4, 2) := dk_21 4 (dk_at dksX3_outOf_2 22 rfl rfl)
theorem dX3_outOf_71 : decode cX3_outOf 71 = .ok (.iconst (-1), 1) := dk_2 (dk_at dksX3_outOf_3 0 rfl rfl)
theorem dX3_outOf_72 : decode cX3_outOf 72 = .ok (.iastore, 1) := dk_79 (dk_at dksX3_outOf_3 1 rfl rfl)
theorem dX3_outOf_73 : decode cX3_outOf 73 = .ok (.iload 4, 2) := dk_21 4 (dk_at dksX3_outOf_3 2 rfl rfl)
theorem dX3_outOf_75 : decode cX3_outOf 75 = .ok (.ireturn, 1) := dk_172 (dk_at dksX3_outOf_3 4 rfl rfl)
abbrev cX3_frees : ByteArray := prog_21_method_23_code
def yX3_frees : MethodName := ⟨RX3, "frees", "(I)V"⟩
def dkwX3_frees_1 : List UInt8 := [79, 177]
abbrev dktX3_frees_1 : List UInt8 := dkwX3_frees_1 ++ []
def dkwX3_frees_0 : List UInt8 := [42, 180, 0, 71, 27, 42, 180, 0, 77, 27, 46, 154, 0, 7, 2, 167, 0, 9, 42, 27, 3, 182, 0, 137]
abbrev dktX3_frees_0 : List UInt8 := dkwX3_frees_0 ++ dktX3_frees_1
theorem dksX3_frees_0 : cX3_frees.data.toList.drop 0 = dktX3_frees_0 := by decide +kernel
theorem dksX3_frees_1 : cX3_frees.data.toList.drop 24 = dktX3_frees_1 := dk_seg dksX3_frees_0 24 rfl rfl
theorem dX3_frees_0 : decode cX3_frees 0 = .ok (.aload_n 0, 1) := dk_42 (dk_at dksX3_frees_0 0 rfl rfl)
theorem dX3_frees_1 : decode cX3_frees 1 = .ok (.getfield 71, 3) := dk_180 0 71 (dk_at dksX3_frees_0 1 rfl rfl)
theorem dX3_frees_4 : decode cX3_frees 4 = .ok (.iload_n 1, 1) := dk_27 (dk_at dksX3_frees_0 4 rfl rfl)
theorem dX3_frees_5 : decode cX3_frees 5 = .ok (.aload_n 0, 1) := dk_42 (dk_at dksX3_frees_0 5 rfl rfl)
theorem dX3_frees_6 : decode cX3_frees 6 = .ok (.getfield 77, 3) := dk_180 0 77 (dk_at dksX3_frees_0 6 rfl rfl)
theorem dX3_frees_9 : decode cX3_frees 9 = .ok (.iload_n 1, 1) := dk_27 (dk_at dksX3_frees_0 9 rfl rfl)
theorem dX3_frees_10 : decode cX3_frees 10 = .ok (.iaload, 1) := dk_46 (dk_at dksX3_frees_0 10 rfl rfl)
theorem dX3_frees_11 : decode cX3_frees 11 = .ok (.ifCond .ne 7, 3) := dk_154 0 7 (dk_at dksX3_frees_0 11 rfl rfl)
theorem dX3_frees_14 : decode cX3_frees 14 = .ok (.iconst (-1), 1) := dk_2 (dk_at dksX3_frees_0 14 rfl rfl)
theorem dX3_frees_15 : decode cX3_frees 15 = .ok (.goto 9, 3) := dk_167 0 9 (dk_at dksX3_frees_0 15 rfl rfl)
theorem dX3_frees_18 : decode cX3_frees 18 = .ok (.aload_n 0, 1) := dk_42 (dk_at dksX3_frees_0 18 rfl rfl)
theorem dX3_frees_19 : decode cX3_frees 19 = .ok (.iload_n 1, 1) := dk_27 (dk_at dksX3_frees_0 19 rfl rfl)
theorem dX3_frees_20 : decode cX3_frees 20 = .ok (.iconst 0, 1) := dk_3 (dk_at dksX3_frees_0 20 rfl rfl)
theorem dX3_frees_21 : decode cX3_frees 21 = .ok (.invokevirtual 137, 3) := dk_182 0 137 (dk_at dksX3_frees_0 21 rfl rfl)
theorem dX3_frees_24 : decode cX3_frees 24 = .ok (.iastore, 1) := dk_79 (dk_at dksX3_frees_1 0 rfl rfl)
theorem dX3_frees_25 : decode cX3_frees 25 = .ok (.return_, 1) := dk_177 (dk_at dksX3_frees_1 1 rfl rfl)
abbrev cX3_leaves : ByteArray := prog_21_method_18_code
def yX3_leaves : MethodName := ⟨RX3, "leaves", "(I)V"⟩
def dkwX3_leaves_3 : List UInt8 := [180, 0, 65, 29, 42, 180, 0, 65, 29, 4, 96, 46, 79, 132, 3, 1, 167, 255, 222, 177]
abbrev dktX3_leaves_3 : List UInt8 := dkwX3_leaves_3 ++ []
def dkwX3_leaves_2 : List UInt8 := [46, 92, 46, 4, 100, 79, 29, 28, 42, 180, 0, 68, 42, 180, 0, 47, 27, 46, 46, 96, 162, 0, 23, 42]
abbrev dktX3_leaves_2 : List UInt8 := dkwX3_leaves_2 ++ dktX3_leaves_3
def dkwX3_leaves_1 : List UInt8 := [180, 0, 65, 29, 46, 27, 159, 0, 9, 132, 3, 1, 167, 255, 243, 42, 180, 0, 68, 42, 180, 0, 47, 27]
abbrev dktX3_leaves_1 : List UInt8 := dkwX3_leaves_1 ++ dktX3_leaves_2
def dkwX3_leaves_0 : List UInt8 := [42, 180, 0, 47, 27, 46, 155, 0, 83, 16, 6, 42, 180, 0, 47, 27, 46, 104, 61, 28, 62, 42]
abbrev dktX3_leaves_0 : List UInt8 := dkwX3_leaves_0 ++ dktX3_leaves_1
theorem dksX3_leaves_0 : cX3_leaves.data.toList.drop 0 = dktX3_leaves_0 := by decide +kernel
theorem dksX3_leaves_1 : cX3_leaves.data.toList.drop 22 = dktX3_leaves_1 := dk_seg dksX3_leaves_0 22 rfl rfl
theorem dksX3_leaves_2 : cX3_leaves.data.toList.drop 46 = dktX3_leaves_2 := dk_seg dksX3_leaves_1 24 rfl rfl
theorem dksX3_leaves_3 : cX3_leaves.data.toList.drop 70 = dktX3_leaves_3 := dk_seg dksX3_leaves_2 24 rfl rfl
theorem dX3_leaves_0 : decode cX3_leaves 0 = .ok (.aload_n 0, 1) := dk_42 (dk_at dksX3_leaves_0 0 rfl rfl)
theorem dX3_leaves_1 : decode cX3_leaves 1 = .ok (.getfield 47, 3) := dk_180 0 47 (dk_at dksX3_leaves_0 1 rfl rfl)
theorem dX3_leaves_4 : decode cX3_leaves 4 = .ok (.iload_n 1, 1) := dk_27 (dk_at dksX3_leaves_0 4 rfl rfl)
theorem dX3_leaves_5 : decode cX3_leaves 5 = .ok (.iaload, 1) := dk_46 (dk_at dksX3_leaves_0 5 rfl rfl)
theorem dX3_leaves_6 : decode cX3_leaves 6 = .ok (.ifCond .lt 83, 3) := dk_155 0 83 (dk_at dksX3_leaves_0 6 rfl rfl)
theorem dX3_leaves_9 : decode cX3_leaves 9 = .ok (.bipush 6, 2) := dk_16 6 (dk_at dksX3_leaves_0 9 rfl rfl)
theorem dX3_leaves_11 : decode cX3_leaves 11 = .ok (.aload_n 0, 1) := dk_42 (dk_at dksX3_leaves_0 11 rfl rfl)
theorem dX3_leaves_12 : decode cX3_leaves 12 = .ok (.getfield 47, 3) := dk_180 0 47 (dk_at dksX3_leaves_0 12 rfl rfl)
theorem dX3_leaves_15 : decode cX3_leaves 15 = .ok (.iload_n 1, 1) := dk_27 (dk_at dksX3_leaves_0 15 rfl rfl)
theorem dX3_leaves_16 : decode cX3_leaves 16 = .ok (.iaload, 1) := dk_46 (dk_at dksX3_leaves_0 16 rfl rfl)
theorem dX3_leaves_17 : decode cX3_leaves 17 = .ok (.imul, 1) := dk_104 (dk_at dksX3_leaves_0 17 rfl rfl)
theorem dX3_leaves_18 : decode cX3_leaves 18 = .ok (.istore_n 2, 1) := dk_61 (dk_at dksX3_leaves_0 18 rfl rfl)
theorem dX3_leaves_19 : decode cX3_leaves 19 = .ok (.iload_n 2, 1) := dk_28 (dk_at dksX3_leaves_0 19 rfl rfl)
theorem dX3_leaves_20 : decode cX3_leaves 20 = .ok (.istore_n 3, 1) := dk_62 (dk_at dksX3_leaves_0 20 rfl rfl)
theorem dX3_leaves_21 : decode cX3_leaves 21 = .ok (.aload_n 0, 1) := dk_42 (dk_at dksX3_leaves_0 21 rfl rfl)
theorem dX3_leaves_22 : decode cX3_leaves 22 = .ok (.getfield 65, 3) := dk_180 0 65 (dk_at dksX3_leaves_1 0 rfl rfl)
theorem dX3_leaves_25 : decode cX3_leaves 25 = .ok (.iload_n 3, 1) := dk_29 (dk_at dksX3_leaves_1 3 rfl rfl)
theorem dX3_leaves_26 : decode cX3_leaves 26 = .ok (.iaload, 1) := dk_46 (dk_at dksX3_leaves_1 4 rfl rfl)
theorem dX3_leaves_27 : decode cX3_leaves 27 = .ok (.iload_n 1, 1) := dk_27 (dk_at dksX3_leaves_1 5 rfl rfl)
theorem dX3_leaves_28 : decode cX3_leaves 28 = .ok (.if_icmp .eq 9, 3) := dk_159 0 9 (dk_at dksX3_leaves_1 6 rfl rfl)
theorem dX3_leaves_31 : decode cX3_leaves 31 = .ok (.iinc 3 1, 3) := dk_132 3 1 (dk_at dksX3_leaves_1 9 rfl rfl)
theorem dX3_leaves_34 : decode cX3_leaves 34 = .ok (.goto (-13), 3) := dk_167 255 243 (dk_at dksX3_leaves_1 12 rfl rfl)
theorem dX3_leaves_37 : decode cX3_leaves 37 = .ok (.aload_n 0, 1) := dk_42 (dk_at dksX3_leaves_1 15 rfl rfl)
theorem dX3_leaves_38 : decode cX3_leaves 38 = .ok (.getfield 68, 3) := dk_180 0 68 (dk_at dksX3_leaves_1 16 rfl rfl)
theorem dX3_leaves_41 : decode cX3_leaves 41 = .ok (.aload_n 0, 1) := dk_42 (dk_at dksX3_leaves_1 19 rfl rfl)
theorem dX3_leaves_42 : decode cX3_leaves 42 = .ok (.getfield 47, 3) := dk_180 0 47 (dk_at dksX3_leaves_1 20 rfl rfl)
theorem dX3_leaves_45 : decode cX3_leaves 45 = .ok (.iload_n 1, 1) := dk_27 (dk_at dksX3_leaves_1 23 rfl rfl)
theorem dX3_leaves_46 : decode cX3_leaves 46 = .ok (.iaload, 1) := dk_46 (dk_at dksX3_leaves_2 0 rfl rfl)
theorem dX3_leaves_47 : decode cX3_leaves 47 = .ok (.dup2, 1) := dk_92 (dk_at dksX3_leaves_2 1 rfl rfl)
theorem dX3_leaves_48 : decode cX3_leaves 48 = .ok (.iaload, 1) := dk_46 (dk_at dksX3_leaves_2 2 rfl rfl)
theorem dX3_leaves_49 : decode cX3_leaves 49 = .ok (.iconst 1, 1) := dk_4 (dk_at dksX3_leaves_2 3 rfl rfl)
theorem dX3_leaves_50 : decode cX3_leaves 50 = .ok (.isub, 1) := dk_100 (dk_at dksX3_leaves_2 4 rfl rfl)
theorem dX3_leaves_51 : decode cX3_leaves 51 = .ok (.iastore, 1) := dk_79 (dk_at dksX3_leaves_2 5 rfl rfl)
theorem dX3_leaves_52 : decode cX3_leaves 52 = .ok (.iload_n 3, 1) := dk_29 (dk_at dksX3_leaves_2 6 rfl rfl)
theorem dX3_leaves_53 : decode cX3_leaves 53 = .ok (.iload_n 2, 1) := dk_28 (dk_at dksX3_leaves_2 7 rfl rfl)
theorem dX3_leaves_54 : decode cX3_leaves 54 = .ok (.aload_n 0, 1) := dk_42 (dk_at dksX3_leaves_2 8 rfl rfl)
theorem dX3_leaves_55 : decode cX3_leaves 55 = .ok (.getfield 68, 3) := dk_180 0 68 (dk_at dksX3_leaves_2 9 rfl rfl)
theorem dX3_leaves_58 : decode cX3_leaves 58 = .ok (.aload_n 0, 1) := dk_42 (dk_at dksX3_leaves_2 12 rfl rfl)
theorem dX3_leaves_59 : decode cX3_leaves 59 = .ok (.getfield 47, 3) := dk_180 0 47 (dk_at dksX3_leaves_2 13 rfl rfl)
theorem dX3_leaves_62 : decode cX3_leaves 62 = .ok (.iload_n 1, 1) := dk_27 (dk_at dksX3_leaves_2 16 rfl rfl)
theorem dX3_leaves_63 : decode cX3_leaves 63 = .ok (.iaload, 1) := dk_46 (dk_at dksX3_leaves_2 17 rfl rfl)
theorem dX3_leaves_64 : decode cX3_leaves 64 = .ok (.iaload, 1) := dk_46 (dk_at dksX3_leaves_2 18 rfl rfl)
theorem dX3_leaves_65 : decode cX3_leaves 65 = .ok (.iadd, 1) := dk_96 (dk_at dksX3_leaves_2 19 rfl rfl)
theorem dX3_leaves_66 : decode cX3_leaves 66 = .ok (.if_icmp .ge 23, 3) := dk_162 0 23 (dk_at dksX3_leaves_2 20 rfl rfl)
theorem dX3_leaves_69 : decode cX3_leaves 69 = .ok (.aload_n 0, 1) := dk_42 (dk_at dksX3_leaves_2 23 rfl rfl)
theorem dX3_leaves_70 : decode cX3_leaves 70 = .ok (.getfield 65, 3) := dk_180 0 65 (dk_at dksX3_leaves_3 0 rfl rfl)
theorem dX3_leaves_73 : decode cX3_leaves 73 = .ok (.iload_n 3, 1) := dk_29 (dk_at dksX3_leaves_3 3 rfl rfl)
theorem dX3_leaves_74 : decode cX3_leaves 74 = .ok (.aload_n 0, 1) := dk_42 (dk_at dksX3_leaves_3 4 rfl rfl)
theorem dX3_leaves_75 : decode cX3_leaves 75 = .ok (.getfield 65, 3) := dk_180 0 65 (dk_at dksX3_leaves_3 5 rfl rfl)
theorem dX3_leaves_78 : decode cX3_leaves 78 = .ok (.iload_n 3, 1) := dk_29 (dk_at dksX3_leaves_3 8 rfl rfl)
theorem dX3_leaves_79 : decode cX3_leaves 79 = .ok (.iconst 1, 1) := dk_4 (dk_at dksX3_leaves_3 9 rfl rfl)
theorem dX3_leaves_80 : decode cX3_leaves 80 = .ok (.iadd, 1) := dk_96 (dk_at dksX3_leaves_3 10 rfl rfl)
theorem dX3_leaves_81 : decode cX3_leaves 81 = .ok (.iaload, 1) := dk_46 (dk_at dksX3_leaves_3 11 rfl rfl)
theorem dX3_leaves_82 : decode cX3_leaves 82 = .ok (.iastore, 1) := dk_79 (dk_at dksX3_leaves_3 12 rfl rfl)
theorem dX3_leaves_83 : decode cX3_leaves 83 = .ok (.iinc 3 1, 3) := dk_132 3 1 (dk_at dksX3_leaves_3 13 rfl rfl)
theorem dX3_leaves_86 : decode cX3_leaves 86 = .ok (.goto (-34), 3) := dk_167 255 222 (dk_at dksX3_leaves_3 16 rfl rfl)
theorem dX3_leaves_89 : decode cX3_leaves 89 = .ok (.return_, 1) := dk_177 (dk_at dksX3_leaves_3 19 rfl rfl)
abbrev cX3_freeze : ByteArray := prog_21_method_25_code
def yX3_freeze : MethodName := ⟨RX3, "freeze", "(I)Z"⟩
def dkwX3_freeze_1 : List UInt8 := [180, 0, 38, 27, 51, 61, 42, 180, 0, 38, 27, 4, 84, 28, 154, 0, 7, 4, 167, 0, 4, 3, 172]
abbrev dktX3_freeze_1 : List UInt8 := dkwX3_freeze_1 ++ []
def dkwX3_freeze_0 : List UInt8 := [42, 42, 27, 182, 0, 123, 154, 0, 7, 4, 167, 0, 4, 3, 4, 182, 0, 103, 153, 0, 5, 3, 172, 42]
abbrev dktX3_freeze_0 : List UInt8 := dkwX3_freeze_0 ++ dktX3_freeze_1
theorem dksX3_freeze_0 : cX3_freeze.data.toList.drop 0 = dktX3_freeze_0 := by decide +kernel
theorem dksX3_freeze_1 : cX3_freeze.data.toList.drop 24 = dktX3_freeze_1 := dk_seg dksX3_freeze_0 24 rfl rfl
theorem dX3_freeze_0 : decode cX3_freeze 0 = .ok (.aload_n 0, 1) := dk_42 (dk_at dksX3_freeze_0 0 rfl rfl)
theorem dX3_freeze_1 : decode cX3_freeze 1 = .ok (.aload_n 0, 1) := dk_42 (dk_at dksX3_freeze_0 1 rfl rfl)
theorem dX3_freeze_2 : decode cX3_freeze 2 = .ok (.iload_n 1, 1) := dk_27 (dk_at dksX3_freeze_0 2 rfl rfl)
theorem dX3_freeze_3 : decode cX3_freeze 3 = .ok (.invokevirtual 123, 3) := dk_182 0 123 (dk_at dksX3_freeze_0 3 rfl rfl)
theorem dX3_freeze_6 : decode cX3_freeze 6 = .ok (.ifCond .ne 7, 3) := dk_154 0 7 (dk_at dksX3_freeze_0 6 rfl rfl)
theorem dX3_freeze_9 : decode cX3_freeze 9 = .ok (.iconst 1, 1) := dk_4 (dk_at dksX3_freeze_0 9 rfl rfl)
theorem dX3_freeze_10 : decode cX3_freeze 10 = .ok (.goto 4, 3) := dk_167 0 4 (dk_at dksX3_freeze_0 10 rfl rfl)
theorem dX3_freeze_13 : decode cX3_freeze 13 = .ok (.iconst 0, 1) := dk_3 (dk_at dksX3_freeze_0 13 rfl rfl)
theorem dX3_freeze_14 : decode cX3_freeze 14 = .ok (.iconst 1, 1) := dk_4 (dk_at dksX3_freeze_0 14 rfl rfl)
theorem dX3_freeze_15 : decode cX3_freeze 15 = .ok (.invokevirtual 103, 3) := dk_182 0 103 (dk_at dksX3_freeze_0 15 rfl rfl)
theorem dX3_freeze_18 : decode cX3_freeze 18 = .ok (.ifCond .eq 5, 3) := dk_153 0 5 (dk_at dksX3_freeze_0 18 rfl rfl)
theorem dX3_freeze_21 : decode cX3_freeze 21 = .ok (.iconst 0, 1) := dk_3 (dk_at dksX3_freeze_0 21 rfl rfl)
theorem dX3_freeze_22 : decode cX3_freeze 22 = .ok (.ireturn, 1) := dk_172 (dk_at dksX3_freeze_0 22 rfl rfl)
theorem dX3_freeze_23 : decode cX3_freeze 23 = .ok (.aload_n 0, 1) := dk_42 (dk_at dksX3_freeze_0 23 rfl rfl)
theorem dX3_freeze_24 : decode cX3_freeze 24 = .ok (.getfield 38, 3) := dk_180 0 38 (dk_at dksX3_freeze_1 0 rfl rfl)
theorem dX3_freeze_27 : decode cX3_freeze 27 = .ok (.iload_n 1, 1) := dk_27 (dk_at dksX3_freeze_1 3 rfl rfl)
theorem dX3_freeze_28 : decode cX3_freeze 28 = .ok (.baload, 1) := dk_51 (dk_at dksX3_freeze_1 4 rfl rfl)
theorem dX3_freeze_29 : decode cX3_freeze 29 = .ok (.istore_n 2, 1) := dk_61 (dk_at dksX3_freeze_1 5 rfl rfl)
theorem dX3_freeze_30 : decode cX3_freeze 30 = .ok (.aload_n 0, 1) := dk_42 (dk_at dksX3_freeze_1 6 rfl rfl)
theorem dX3_freeze_31 : decode cX3_freeze 31 = .ok (.getfield 38, 3) := dk_180 0 38 (dk_at dksX3_freeze_1 7 rfl rfl)
theorem dX3_freeze_34 : decode cX3_freeze 34 = .ok (.iload_n 1, 1) := dk_27 (dk_at dksX3_freeze_1 10 rfl rfl)
theorem dX3_freeze_35 : decode cX3_freeze 35 = .ok (.iconst 1, 1) := dk_4 (dk_at dksX3_freeze_1 11 rfl rfl)
theorem dX3_freeze_36 : decode cX3_freeze 36 = .ok (.bastore, 1) := dk_84 (dk_at dksX3_freeze_1 12 rfl rfl)
theorem dX3_freeze_37 : decode cX3_freeze 37 = .ok (.iload_n 2, 1) := dk_28 (dk_at dksX3_freeze_1 13 rfl rfl)
theorem dX3_freeze_38 : decode cX3_freeze 38 = .ok (.ifCond .ne 7, 3) := dk_154 0 7 (dk_at dksX3_freeze_1 14 rfl rfl)
theorem dX3_freeze_41 : decode cX3_freeze 41 = .ok (.iconst 1, 1) := dk_4 (dk_at dksX3_freeze_1 17 rfl rfl)
theorem dX3_freeze_42 : decode cX3_freeze 42 = .ok (.goto 4, 3) := dk_167 0 4 (dk_at dksX3_freeze_1 18 rfl rfl)
theorem dX3_freeze_45 : decode cX3_freeze 45 = .ok (.iconst 0, 1) := dk_3 (dk_at dksX3_freeze_1 21 rfl rfl)
theorem dX3_freeze_46 : decode cX3_freeze 46 = .ok (.ireturn, 1) := dk_172 (dk_at dksX3_freeze_1 22 rfl rfl)
abbrev cX3_thaw : ByteArray := prog_21_method_26_code
def yX3_thaw : MethodName := ⟨RX3, "thaw", "(I)I"⟩
def dkwX3_thaw_5 : List UInt8 := [182, 0, 134, 132, 3, 1, 132, 4, 1, 167, 255, 210, 29, 172]
abbrev dktX3_thaw_5 : List UInt8 := dkwX3_thaw_5 ++ []
def dkwX3_thaw_4 : List UInt8 := [42, 180, 0, 34, 21, 4, 51, 153, 0, 23, 42, 180, 0, 47, 21, 4, 46, 156, 0, 13, 42, 21, 4, 27]
abbrev dktX3_thaw_4 : List UInt8 := dkwX3_thaw_4 ++ dktX3_thaw_5
def dkwX3_thaw_3 : List UInt8 := [27, 27, 182, 0, 134, 132, 3, 1, 3, 54, 4, 21, 4, 42, 180, 0, 100, 162, 0, 43, 28, 153, 0, 39]
abbrev dktX3_thaw_3 : List UInt8 := dkwX3_thaw_3 ++ dktX3_thaw_4
def dkwX3_thaw_2 : List UInt8 := [27, 3, 79, 3, 62, 28, 153, 0, 26, 42, 180, 0, 34, 27, 51, 153, 0, 17, 42, 27, 182, 0, 150, 42]
abbrev dktX3_thaw_2 : List UInt8 := dkwX3_thaw_2 ++ dktX3_thaw_3
def dkwX3_thaw_1 : List UInt8 := [180, 0, 41, 27, 51, 61, 42, 180, 0, 38, 27, 3, 84, 42, 180, 0, 41, 27, 3, 84, 42, 180, 0, 59]
abbrev dktX3_thaw_1 : List UInt8 := dkwX3_thaw_1 ++ dktX3_thaw_2
def dkwX3_thaw_0 : List UInt8 := [42, 42, 27, 182, 0, 123, 154, 0, 7, 4, 167, 0, 4, 3, 4, 182, 0, 103, 153, 0, 5, 3, 172, 42]
abbrev dktX3_thaw_0 : List UInt8 := dkwX3_thaw_0 ++ dktX3_thaw_1
theorem dksX3_thaw_0 : cX3_thaw.data.toList.drop 0 = dktX3_thaw_0 := by decide +kernel
theorem dksX3_thaw_1 : cX3_thaw.data.toList.drop 24 = dktX3_thaw_1 := dk_seg dksX3_thaw_0 24 rfl rfl
theorem dksX3_thaw_2 : cX3_thaw.data.toList.drop 48 = dktX3_thaw_2 := dk_seg dksX3_thaw_1 24 rfl rfl
theorem dksX3_thaw_3 : cX3_thaw.data.toList.drop 72 = dktX3_thaw_3 := dk_seg dksX3_thaw_2 24 rfl rfl
theorem dksX3_thaw_4 : cX3_thaw.data.toList.drop 96 = dktX3_thaw_4 := dk_seg dksX3_thaw_3 24 rfl rfl
theorem dksX3_thaw_5 : cX3_thaw.data.toList.drop 120 = dktX3_thaw_5 := dk_seg dksX3_thaw_4 24 rfl rfl
theorem dX3_thaw_0 : decode cX3_thaw 0 = .ok (.aload_n 0, 1) := dk_42 (dk_at dksX3_thaw_0 0 rfl rfl)
theorem dX3_thaw_1 : decode cX3_thaw 1 = .ok (.aload_n 0, 1) := dk_42 (dk_at dksX3_thaw_0 1 rfl rfl)
theorem dX3_thaw_2 : decode cX3_thaw 2 = .ok (.iload_n 1, 1) := dk_27 (dk_at dksX3_thaw_0 2 rfl rfl)
theorem dX3_thaw_3 : decode cX3_thaw 3 = .ok (.invokevirtual 123, 3) := dk_182 0 123 (dk_at dksX3_thaw_0 3 rfl rfl)
theorem dX3_thaw_6 : decode cX3_thaw 6 = .ok (.ifCond .ne 7, 3) := dk_154 0 7 (dk_at dksX3_thaw_0 6 rfl rfl)
theorem dX3_thaw_9 : decode cX3_thaw 9 = .ok (.iconst 1, 1) := dk_4 (dk_at dksX3_thaw_0 9 rfl rfl)
theorem dX3_thaw_10 : decode cX3_thaw 10 = .ok (.goto 4, 3) := dk_167 0 4 (dk_at dksX3_thaw_0 10 rfl rfl)
theorem dX3_thaw_13 : decode cX3_thaw 13 = .ok (.iconst 0, 1) := dk_3 (dk_at dksX3_thaw_0 13 rfl rfl)
theorem dX3_thaw_14 : decode cX3_thaw 14 = .ok (.iconst 1, 1) := dk_4 (dk_at dksX3_thaw_0 14 rfl rfl)
theorem dX3_thaw_15 : decode cX3_thaw 15 = .ok (.invokevirtual 103, 3) := dk_182 0 103 (dk_at dksX3_thaw_0 15 rfl rfl)
theorem dX3_thaw_18 : decode cX3_thaw 18 = .ok (.ifCond .eq 5, 3) := dk_153 0 5 (dk_at dksX3_thaw_0 18 rfl rfl)
theorem dX3_thaw_21 : decode cX3_thaw 21 = .ok (.iconst 0, 1) := dk_3 (dk_at dksX3_thaw_0 21 rfl rfl)
theorem dX3_thaw_22 : decode cX3_thaw 22 = .ok (.ireturn, 1) := dk_172 (dk_at dksX3_thaw_0 22 rfl rfl)
theorem dX3_thaw_23 : decode cX3_thaw 23 = .ok (.aload_n 0, 1) := dk_42 (dk_at dksX3_thaw_0 23 rfl rfl)
theorem dX3_thaw_24 : decode cX3_thaw 24 = .ok (.getfield 41, 3) := dk_180 0 41 (dk_at dksX3_thaw_1 0 rfl rfl)
theorem dX3_thaw_27 : decode cX3_thaw 27 = .ok (.iload_n 1, 1) := dk_27 (dk_at dksX3_thaw_1 3 rfl rfl)
theorem dX3_thaw_28 : decode cX3_thaw 28 = .ok (.baload, 1) := dk_51 (dk_at dksX3_thaw_1 4 rfl rfl)
theorem dX3_thaw_29 : decode cX3_thaw 29 = .ok (.istore_n 2, 1) := dk_61 (dk_at dksX3_thaw_1 5 rfl rfl)
theorem dX3_thaw_30 : decode cX3_thaw 30 = .ok (.aload_n 0, 1) := dk_42 (dk_at dksX3_thaw_1 6 rfl rfl)
theorem dX3_thaw_31 : decode cX3_thaw 31 = .ok (.getfield 38, 3) := dk_180 0 38 (dk_at dksX3_thaw_1 7 rfl rfl)
theorem dX3_thaw_34 : decode cX3_thaw 34 = .ok (.iload_n 1, 1) := dk_27 (dk_at dksX3_thaw_1 10 rfl rfl)
theorem dX3_thaw_35 : decode cX3_thaw 35 = .ok (.iconst 0, 1) := dk_3 (dk_at dksX3_thaw_1 11 rfl rfl)
theorem dX3_thaw_36 : decode cX3_thaw 36 = .ok (.bastore, 1) := dk_84 (dk_at dksX3_thaw_1 12 rfl rfl)
theorem dX3_thaw_37 : decode cX3_thaw 37 = .ok (.aload_n 0, 1) := dk_42 (dk_at dksX3_thaw_1 13 rfl rfl)
theorem dX3_thaw_38 : decode cX3_thaw 38 = .ok (.getfield 41, 3) := dk_180 0 41 (dk_at dksX3_thaw_1 14 rfl rfl)
theorem dX3_thaw_41 : decode cX3_thaw 41 = .ok (.iload_n 1, 1) := dk_27 (dk_at dksX3_thaw_1 17 rfl rfl)
theorem dX3_thaw_42 : decode cX3_thaw 42 = .ok (.iconst 0, 1) := dk_3 (dk_at dksX3_thaw_1 18 rfl rfl)
theorem dX3_thaw_43 : decode cX3_thaw 43 = .ok (.bastore, 1) := dk_84 (dk_at dksX3_thaw_1 19 rfl rfl)
theorem dX3_thaw_44 : decode cX3_thaw 44 = .ok (.aload_n 0, 1) := dk_42 (dk_at dksX3_thaw_1 20 rfl rfl)
theorem dX3_thaw_45 : decode cX3_thaw 45 = .ok (.getfield 59, 3) := dk_180 0 59 (dk_at dksX3_thaw_1 21 rfl rfl)
theorem dX3_thaw_48 : decode cX3_thaw 48 = .ok (.iload_n 1, 1) := dk_27 (dk_at dksX3_thaw_2 0 rfl rfl)
theorem dX3_thaw_49 : decode cX3_thaw 49 = .ok (.iconst 0, 1) := dk_3 (dk_at dksX3_thaw_2 1 rfl rfl)
theorem dX3_thaw_50 : decode cX3_thaw 50 = .ok (.iastore, 1) := dk_79 (dk_at dksX3_thaw_2 2 rfl rfl)
theorem dX3_thaw_51 : decode cX3_thaw 51 = .ok (.iconst 0, 1) := dk_3 (dk_at dksX3_thaw_2 3 rfl rfl)
theorem dX3_thaw_52 : decode cX3_thaw 52 = .ok (.istore_n 3, 1) := dk_62 (dk_at dksX3_thaw_2 4 rfl rfl)
theorem dX3_thaw_53 : decode cX3_thaw 53 = .ok (.iload_n 2, 1) := dk_28 (dk_at dksX3_thaw_2 5 rfl rfl)
theorem dX3_thaw_54 : decode cX3_thaw 54 = .ok (.ifCond .eq 26, 3) := dk_153 0 26 (dk_at dksX3_thaw_2 6 rfl rfl)
theorem dX3_thaw_57 : decode cX3_thaw 57 = .ok (.aload_n 0, 1) := dk_42 (dk_at dksX3_thaw_2 9 rfl rfl)
theorem dX3_thaw_58 : decode cX3_thaw 58 = .ok (.getfield 34, 3) := dk_180 0 34 (dk_at dksX3_thaw_2 10 rfl rfl)
theorem dX3_thaw_61 : decode cX3_thaw 61 = .ok (.iload_n 1, 1) := dk_27 (dk_at dksX3_thaw_2 13 rfl rfl)
theorem dX3_thaw_62 : decode cX3_thaw 62 = .ok (.baload, 1) := dk_51 (dk_at dksX3_thaw_2 14 rfl rfl)
theorem dX3_thaw_63 : decode cX3_thaw 63 = .ok (.ifCond .eq 17, 3) := dk_153 0 17 (dk_at dksX3_thaw_2 15 rfl rfl)
theorem dX3_thaw_66 : decode cX3_thaw 66 = .ok (.aload_n 0, 1) := dk_42 (dk_at dksX3_thaw_2 18 rfl rfl)
theorem dX3_thaw_67 : decode cX3_thaw 67 = .ok (.iload_n 1, 1) := dk_27 (dk_at dksX3_thaw_2 19 rfl rfl)
theorem dX3_thaw_68 : decode cX3_thaw 68 = .ok (.invokevirtual 150, 3) := dk_182 0 150 (dk_at dksX3_thaw_2 20 rfl rfl)
theorem dX3_thaw_71 : decode cX3_thaw 71 = .ok (.aload_n 0, 1) := dk_42 (dk_at dksX3_thaw_2 23 rfl rfl)
theorem dX3_thaw_72 : decode cX3_thaw 72 = .ok (.iload_n 1, 1) := dk_27 (dk_at dksX3_thaw_3 0 rfl rfl)
theorem dX3_thaw_73 : decode cX3_thaw 73 = .ok (.iload_n 1, 1) := dk_27 (dk_at dksX3_thaw_3 1 rfl rfl)
theorem dX3_thaw_74 : decode cX3_thaw 74 = .ok (.invokevirtual 134, 3) := dk_182 0 134 (dk_at dksX3_thaw_3 2 rfl rfl)
theorem dX3_thaw_77 : decode cX3_thaw 77 = .ok (.iinc 3 1, 3) := dk_132 3 1 (dk_at dksX3_thaw_3 5 rfl rfl)
theorem dX3_thaw_80 : decode cX3_thaw 80 = .ok (.iconst 0, 1) := dk_3 (dk_at dksX3_thaw_3 8 rfl rfl)
theorem dX3_thaw_81 : decode cX3_thaw 81 = .ok (.istore 4, 2) := dk_54 4 (dk_at dksX3_thaw_3 9 rfl rfl)
theorem dX3_thaw_83 : decode cX3_thaw 83 = .ok (.iload 4, 2) := dk_21 4 (dk_at dksX3_thaw_3 11 rfl rfl)
theorem dX3_thaw_85 : decode cX3_thaw 85 = .ok (.aload_n 0, 1) := dk_42 (dk_at dksX3_thaw_3 13 rfl rfl)
theorem dX3_thaw_86 : decode cX3_thaw 86 = .ok (.getfield 100, 3) := dk_180 0 100 (dk_at dksX3_thaw_3 14 rfl rfl)
theorem dX3_thaw_89 : decode cX3_thaw 89 = .ok (.if_icmp .ge 43, 3) := dk_162 0 43 (dk_at dksX3_thaw_3 17 rfl rfl)
theorem dX3_thaw_92 : decode cX3_thaw 92 = .ok (.iload_n 2, 1) := dk_28 (dk_at dksX3_thaw_3 20 rfl rfl)
theorem dX3_thaw_93 : decode cX3_thaw 93 = .ok (.ifCond .eq 39, 3) := dk_153 0 39 (dk_at dksX3_thaw_3 21 rfl rfl)
theorem dX3_thaw_96 : decode cX3_thaw 96 = .ok (.aload_n 0, 1) := dk_42 (dk_at dksX3_thaw_4 0 rfl rfl)
theorem dX3_thaw_97 : decode cX3_thaw 97 = .ok (.getfield 34, 3) := dk_180 0 34 (dk_at dksX3_thaw_4 1 rfl rfl)
theorem dX3_thaw_100 : decode cX3_thaw 100 = .ok (.iload 4, 2) := dk_21 4 (dk_at dksX3_thaw_4 4 rfl rfl)
theorem dX3_thaw_102 : decode cX3_thaw 102 = .ok (.baload, 1) := dk_51 (dk_at dksX3_thaw_4 6 rfl rfl)
theorem dX3_thaw_103 : decode cX3_thaw 103 = .ok (.ifCond .eq 23, 3) := dk_153 0 23 (dk_at dksX3_thaw_4 7 rfl rfl)
theorem dX3_thaw_106 : decode cX3_thaw 106 = .ok (.aload_n 0, 1) := dk_42 (dk_at dksX3_thaw_4 10 rfl rfl)
theorem dX3_thaw_107 : decode cX3_thaw 107 = .ok (.getfield 47, 3) := dk_180 0 47 (dk_at dksX3_thaw_4 11 rfl rfl)
theorem dX3_thaw_110 : decode cX3_thaw 110 = .ok (.iload 4, 2) := dk_21 4 (dk_at dksX3_thaw_4 14 rfl rfl)
theorem dX3_thaw_112 : decode cX3_thaw 112 = .ok (.iaload, 1) := dk_46 (dk_at dksX3_thaw_4 16 rfl rfl)
theorem dX3_thaw_113 : decode cX3_thaw 113 = .ok (.ifCond .ge 13, 3) := dk_156 0 13 (dk_at dksX3_thaw_4 17 rfl rfl)
theorem dX3_thaw_116 : decode cX3_thaw 116 = .ok (.aload_n 0, 1) := dk_42 (dk_at dksX3_thaw_4 20 rfl rfl)
theorem dX3_thaw_117 : decode cX3_thaw 117 = .ok (.iload 4, 2) := dk_21 4 (dk_at dksX3_thaw_4 21 rfl rfl)
theorem dX3_thaw_119 : decode cX3_thaw 119 = .ok (.iload_n 1, 1) := dk_27 (dk_at dksX3_thaw_4 23 rfl rfl)
theorem dX3_thaw_120 : decode cX3_thaw 120 = .ok (.invokevirtual 134, 3) := dk_182 0 134 (dk_at dksX3_thaw_5 0 rfl rfl)
theorem dX3_thaw_123 : decode cX3_thaw 123 = .ok (.iinc 3 1, 3) := dk_132 3 1 (dk_at dksX3_thaw_5 3 rfl rfl)
theorem dX3_thaw_126 : decode cX3_thaw 126 = .ok (.iinc 4 1, 3) := dk_132 4 1 (dk_at dksX3_thaw_5 6 rfl rfl)
theorem dX3_thaw_129 : decode cX3_thaw 129 = .ok (.goto (-46), 3) := dk_167 255 210 (dk_at dksX3_thaw_5 9 rfl rfl)
theorem dX3_thaw_132 : decode cX3_thaw 132 = .ok (.iload_n 3, 1) := dk_29 (dk_at dksX3_thaw_5 12 rfl rfl)
theorem dX3_thaw_133 : decode cX3_thaw 133 = .ok (.ireturn, 1) := dk_172 (dk_at dksX3_thaw_5 13 rfl rfl)
abbrev cX3_state : ByteArray := prog_21_method_27_code
def yX3_state : MethodName := ⟨RX3, "state", "(I)C"⟩
def dkwX3_state_2 : List UInt8 := [153, 0, 8, 16, 102, 167, 0, 5, 16, 112, 172]
abbrev dktX3_state_2 : List UInt8 := dkwX3_state_2 ++ []
def dkwX3_state_1 : List UInt8 := [167, 0, 33, 42, 180, 0, 41, 27, 51, 153, 0, 8, 16, 111, 167, 0, 19, 42, 180, 0, 38, 27, 51]
abbrev dktX3_state_1 : List UInt8 := dkwX3_state_1 ++ dktX3_state_2
def dkwX3_state_0 : List UInt8 := [42, 42, 27, 182, 0, 123, 154, 0, 7, 4, 167, 0, 4, 3, 4, 182, 0, 103, 153, 0, 8, 16, 45]
abbrev dktX3_state_0 : List UInt8 := dkwX3_state_0 ++ dktX3_state_1
theorem dksX3_state_0 : cX3_state.data.toList.drop 0 = dktX3_state_0 := by decide +kernel
theorem dksX3_state_1 : cX3_state.data.toList.drop 23 = dktX3_state_1 := dk_seg dksX3_state_0 23 rfl rfl
theorem dksX3_state_2 : cX3_state.data.toList.drop 46 = dktX3_state_2 := dk_seg dksX3_state_1 23 rfl rfl
theorem dX3_state_0 : decode cX3_state 0 = .ok (.aload_n 0, 1) := dk_42 (dk_at dksX3_state_0 0 rfl rfl)
theorem dX3_state_1 : decode cX3_state 1 = .ok (.aload_n 0, 1) := dk_42 (dk_at dksX3_state_0 1 rfl rfl)
theorem dX3_state_2 : decode cX3_state 2 = .ok (.iload_n 1, 1) := dk_27 (dk_at dksX3_state_0 2 rfl rfl)
theorem dX3_state_3 : decode cX3_state 3 = .ok (.invokevirtual 123, 3) := dk_182 0 123 (dk_at dksX3_state_0 3 rfl rfl)
theorem dX3_state_6 : decode cX3_state 6 = .ok (.ifCond .ne 7, 3) := dk_154 0 7 (dk_at dksX3_state_0 6 rfl rfl)
theorem dX3_state_9 : decode cX3_state 9 = .ok (.iconst 1, 1) := dk_4 (dk_at dksX3_state_0 9 rfl rfl)
theorem dX3_state_10 : decode cX3_state 10 = .ok (.goto 4, 3) := dk_167 0 4 (dk_at dksX3_state_0 10 rfl rfl)
theorem dX3_state_13 : decode cX3_state 13 = .ok (.iconst 0, 1) := dk_3 (dk_at dksX3_state_0 13 rfl rfl)
theorem dX3_state_14 : decode cX3_state 14 = .ok (.iconst 1, 1) := dk_4 (dk_at dksX3_state_0 14 rfl rfl)
theorem dX3_state_15 : decode cX3_state 15 = .ok (.invokevirtual 103, 3) := dk_182 0 103 (dk_at dksX3_state_0 15 rfl rfl)
theorem dX3_state_18 : decode cX3_state 18 = .ok (.ifCond .eq 8, 3) := dk_153 0 8 (dk_at dksX3_state_0 18 rfl rfl)
theorem dX3_state_21 : decode cX3_state 21 = .ok (.bipush 45, 2) := dk_16 45 (dk_at dksX3_state_0 21 rfl rfl)
theorem dX3_state_23 : decode cX3_state 23 = .ok (.goto 33, 3) := dk_167 0 33 (dk_at dksX3_state_1 0 rfl rfl)
theorem dX3_state_26 : decode cX3_state 26 = .ok (.aload_n 0, 1) := dk_42 (dk_at dksX3_state_1 3 rfl rfl)
theorem dX3_state_27 : decode cX3_state 27 = .ok (.getfield 41, 3) := dk_180 0 41 (dk_at dksX3_state_1 4 rfl rfl)
theorem dX3_state_30 : decode cX3_state 30 = .ok (.iload_n 1, 1) := dk_27 (dk_at dksX3_state_1 7 rfl rfl)
theorem dX3_state_31 : decode cX3_state 31 = .ok (.baload, 1) := dk_51 (dk_at dksX3_state_1 8 rfl rfl)
theorem dX3_state_32 : decode cX3_state 32 = .ok (.ifCond .eq 8, 3) := dk_153 0 8 (dk_at dksX3_state_1 9 rfl rfl)
theorem dX3_state_35 : decode cX3_state 35 = .ok (.bipush 111, 2) := dk_16 111 (dk_at dksX3_state_1 12 rfl rfl)
theorem dX3_state_37 : decode cX3_state 37 = .ok (.goto 19, 3) := dk_167 0 19 (dk_at dksX3_state_1 14 rfl rfl)
theorem dX3_state_40 : decode cX3_state 40 = .ok (.aload_n 0, 1) := dk_42 (dk_at dksX3_state_1 17 rfl rfl)
theorem dX3_state_41 : decode cX3_state 41 = .ok (.getfield 38, 3) := dk_180 0 38 (dk_at dksX3_state_1 18 rfl rfl)
theorem dX3_state_44 : decode cX3_state 44 = .ok (.iload_n 1, 1) := dk_27 (dk_at dksX3_state_1 21 rfl rfl)
theorem dX3_state_45 : decode cX3_state 45 = .ok (.baload, 1) := dk_51 (dk_at dksX3_state_1 22 rfl rfl)
theorem dX3_state_46 : decode cX3_state 46 = .ok (.ifCond .eq 8, 3) := dk_153 0 8 (dk_at dksX3_state_2 0 rfl rfl)
theorem dX3_state_49 : decode cX3_state 49 = .ok (.bipush 102, 2) := dk_16 102 (dk_at dksX3_state_2 3 rfl rfl)
theorem dX3_state_51 : decode cX3_state 51 = .ok (.goto 5, 3) := dk_167 0 5 (dk_at dksX3_state_2 5 rfl rfl)
theorem dX3_state_54 : decode cX3_state 54 = .ok (.bipush 112, 2) := dk_16 112 (dk_at dksX3_state_2 8 rfl rfl)
theorem dX3_state_56 : decode cX3_state 56 = .ok (.ireturn, 1) := dk_172 (dk_at dksX3_state_2 10 rfl rfl)
abbrev cX3_plays : ByteArray := prog_21_method_28_code
def yX3_plays : MethodName := ⟨RX3, "plays", "(I)I"⟩
def dkwX3_plays_0 : List UInt8 := [42, 27, 182, 0, 140, 153, 0, 7, 3, 167, 0, 9, 42, 180, 0, 47, 27, 46, 172]
abbrev dktX3_plays_0 : List UInt8 := dkwX3_plays_0 ++ []
theorem dksX3_plays_0 : cX3_plays.data.toList.drop 0 = dktX3_plays_0 := by decide +kernel
theorem dX3_plays_0 : decode cX3_plays 0 = .ok (.aload_n 0, 1) := dk_42 (dk_at dksX3_plays_0 0 rfl rfl)
theorem dX3_plays_1 : decode cX3_plays 1 = .ok (.iload_n 1, 1) := dk_27 (dk_at dksX3_plays_0 1 rfl rfl)
theorem dX3_plays_2 : decode cX3_plays 2 = .ok (.invokevirtual 140, 3) := dk_182 0 140 (dk_at dksX3_plays_0 2 rfl rfl)
theorem dX3_plays_5 : decode cX3_plays 5 = .ok (.ifCond .eq 7, 3) := dk_153 0 7 (dk_at dksX3_plays_0 5 rfl rfl)
theorem dX3_plays_8 : decode cX3_plays 8 = .ok (.iconst 0, 1) := dk_3 (dk_at dksX3_plays_0 8 rfl rfl)
theorem dX3_plays_9 : decode cX3_plays 9 = .ok (.goto 9, 3) := dk_167 0 9 (dk_at dksX3_plays_0 9 rfl rfl)
theorem dX3_plays_12 : decode cX3_plays 12 = .ok (.aload_n 0, 1) := dk_42 (dk_at dksX3_plays_0 12 rfl rfl)
theorem dX3_plays_13 : decode cX3_plays 13 = .ok (.getfield 47, 3) := dk_180 0 47 (dk_at dksX3_plays_0 13 rfl rfl)
theorem dX3_plays_16 : decode cX3_plays 16 = .ok (.iload_n 1, 1) := dk_27 (dk_at dksX3_plays_0 16 rfl rfl)
theorem dX3_plays_17 : decode cX3_plays 17 = .ok (.iaload, 1) := dk_46 (dk_at dksX3_plays_0 17 rfl rfl)
theorem dX3_plays_18 : decode cX3_plays 18 = .ok (.ireturn, 1) := dk_172 (dk_at dksX3_plays_0 18 rfl rfl)
abbrev cX3_playerAt : ByteArray := prog_21_method_29_code
def yX3_playerAt : MethodName := ⟨RX3, "playerAt", "(II)I"⟩
def dkwX3_playerAt_2 : List UInt8 := [153, 0, 5, 3, 172, 42, 180, 0, 65, 16, 6, 27, 104, 28, 96, 46, 172]
abbrev dktX3_playerAt_2 : List UInt8 := dkwX3_playerAt_2 ++ []
def dkwX3_playerAt_1 : List UInt8 := [42, 180, 0, 68, 27, 46, 4, 100, 184, 0, 96, 154, 0, 7, 4, 167, 0, 4, 3, 5, 182, 0, 103]
abbrev dktX3_playerAt_1 : List UInt8 := dkwX3_playerAt_1 ++ dktX3_playerAt_2
def dkwX3_playerAt_0 : List UInt8 := [42, 42, 27, 182, 0, 123, 154, 0, 7, 4, 167, 0, 4, 3, 4, 182, 0, 103, 154, 0, 32, 42, 28, 3]
abbrev dktX3_playerAt_0 : List UInt8 := dkwX3_playerAt_0 ++ dktX3_playerAt_1
theorem dksX3_playerAt_0 : cX3_playerAt.data.toList.drop 0 = dktX3_playerAt_0 := by decide +kernel
theorem dksX3_playerAt_1 : cX3_playerAt.data.toList.drop 24 = dktX3_playerAt_1 := dk_seg dksX3_playerAt_0 24 rfl rfl
theorem dksX3_playerAt_2 : cX3_playerAt.data.toList.drop 47 = dktX3_playerAt_2 := dk_seg dksX3_playerAt_1 23 rfl rfl
theorem dX3_playerAt_0 : decode cX3_playerAt 0 = .ok (.aload_n 0, 1) := dk_42 (dk_at dksX3_playerAt_0 0 rfl rfl)
theorem dX3_playerAt_1 : decode cX3_playerAt 1 = .ok (.aload_n 0, 1) := dk_42 (dk_at dksX3_playerAt_0 1 rfl rfl)
theorem dX3_playerAt_2 : decode cX3_playerAt 2 = .ok (.iload_n 1, 1) := dk_27 (dk_at dksX3_playerAt_0 2 rfl rfl)
theorem dX3_playerAt_3 : decode cX3_playerAt 3 = .ok (.invokevirtual 123, 3) := dk_182 0 123 (dk_at dksX3_playerAt_0 3 rfl rfl)
theorem dX3_playerAt_6 : decode cX3_playerAt 6 = .ok (.ifCond .ne 7, 3) := dk_154 0 7 (dk_at dksX3_playerAt_0 6 rfl rfl)
theorem dX3_playerAt_9 : decode cX3_playerAt 9 = .ok (.iconst 1, 1) := dk_4 (dk_at dksX3_playerAt_0 9 rfl rfl)
theorem dX3_playerAt_10 : decode cX3_playerAt 10 = .ok (.goto 4, 3) := dk_167 0 4 (dk_at dksX3_playerAt_0 10 rfl rfl)
theorem dX3_playerAt_13 : decode cX3_playerAt 13 = .ok (.iconst 0, 1) := dk_3 (dk_at dksX3_playerAt_0 13 rfl rfl)
theorem dX3_playerAt_14 : decode cX3_playerAt 14 = .ok (.iconst 1, 1) := dk_4 (dk_at dksX3_playerAt_0 14 rfl rfl)
theorem dX3_playerAt_15 : decode cX3_playerAt 15 = .ok (.invokevirtual 103, 3) := dk_182 0 103 (dk_at dksX3_playerAt_0 15 rfl rfl)
theorem dX3_playerAt_18 : decode cX3_playerAt 18 = .ok (.ifCond .ne 32, 3) := dk_154 0 32 (dk_at dksX3_playerAt_0 18 rfl rfl)
theorem dX3_playerAt_21 : decode cX3_playerAt 21 = .ok (.aload_n 0, 1) := dk_42 (dk_at dksX3_playerAt_0 21 rfl rfl)
theorem dX3_playerAt_22 : decode cX3_playerAt 22 = .ok (.iload_n 2, 1) := dk_28 (dk_at dksX3_playerAt_0 22 rfl rfl)
theorem dX3_playerAt_23 : decode cX3_playerAt 23 = .ok (.iconst 0, 1) := dk_3 (dk_at dksX3_playerAt_0 23 rfl rfl)
theorem dX3_playerAt_24 : decode cX3_playerAt 24 = .ok (.aload_n 0, 1) := dk_42 (dk_at dksX3_playerAt_1 0 rfl rfl)
theorem dX3_playerAt_25 : decode cX3_playerAt 25 = .ok (.getfield 68, 3) := dk_180 0 68 (dk_at dksX3_playerAt_1 1 rfl rfl)
theorem dX3_playerAt_28 : decode cX3_playerAt 28 = .ok (.iload_n 1, 1) := dk_27 (dk_at dksX3_playerAt_1 4 rfl rfl)
theorem dX3_playerAt_29 : decode cX3_playerAt 29 = .ok (.iaload, 1) := dk_46 (dk_at dksX3_playerAt_1 5 rfl rfl)
theorem dX3_playerAt_30 : decode cX3_playerAt 30 = .ok (.iconst 1, 1) := dk_4 (dk_at dksX3_playerAt_1 6 rfl rfl)
theorem dX3_playerAt_31 : decode cX3_playerAt 31 = .ok (.isub, 1) := dk_100 (dk_at dksX3_playerAt_1 7 rfl rfl)
theorem dX3_playerAt_32 : decode cX3_playerAt 32 = .ok (.invokestatic 96, 3) := dk_184 0 96 (dk_at dksX3_playerAt_1 8 rfl rfl)
theorem dX3_playerAt_35 : decode cX3_playerAt 35 = .ok (.ifCond .ne 7, 3) := dk_154 0 7 (dk_at dksX3_playerAt_1 11 rfl rfl)
theorem dX3_playerAt_38 : decode cX3_playerAt 38 = .ok (.iconst 1, 1) := dk_4 (dk_at dksX3_playerAt_1 14 rfl rfl)
theorem dX3_playerAt_39 : decode cX3_playerAt 39 = .ok (.goto 4, 3) := dk_167 0 4 (dk_at dksX3_playerAt_1 15 rfl rfl)
theorem dX3_playerAt_42 : decode cX3_playerAt 42 = .ok (.iconst 0, 1) := dk_3 (dk_at dksX3_playerAt_1 18 rfl rfl)
theorem dX3_playerAt_43 : decode cX3_playerAt 43 = .ok (.iconst 2, 1) := dk_5 (dk_at dksX3_playerAt_1 19 rfl rfl)
theorem dX3_playerAt_44 : decode cX3_playerAt 44 = .ok (.invokevirtual 103, 3) := dk_182 0 103 (dk_at dksX3_playerAt_1 20 rfl rfl)
theorem dX3_playerAt_47 : decode cX3_playerAt 47 = .ok (.ifCond .eq 5, 3) := dk_153 0 5 (dk_at dksX3_playerAt_2 0 rfl rfl)
theorem dX3_playerAt_50 : decode cX3_playerAt 50 = .ok (.iconst 0, 1) := dk_3 (dk_at dksX3_playerAt_2 3 rfl rfl)
theorem dX3_playerAt_51 : decode cX3_playerAt 51 = .ok (.ireturn, 1) := dk_172 (dk_at dksX3_playerAt_2 4 rfl rfl)
theorem dX3_playerAt_52 : decode cX3_playerAt 52 = .ok (.aload_n 0, 1) := dk_42 (dk_at dksX3_playerAt_2 5 rfl rfl)
theorem dX3_playerAt_53 : decode cX3_playerAt 53 = .ok (.getfield 65, 3) := dk_180 0 65 (dk_at dksX3_playerAt_2 6 rfl rfl)
theorem dX3_playerAt_56 : decode cX3_playerAt 56 = .ok (.bipush 6, 2) := dk_16 6 (dk_at dksX3_playerAt_2 9 rfl rfl)
theorem dX3_playerAt_58 : decode cX3_playerAt 58 = .ok (.iload_n 1, 1) := dk_27 (dk_at dksX3_playerAt_2 11 rfl rfl)
theorem dX3_playerAt_59 : decode cX3_playerAt 59 = .ok (.imul, 1) := dk_104 (dk_at dksX3_playerAt_2 12 rfl rfl)
theorem dX3_playerAt_60 : decode cX3_playerAt 60 = .ok (.iload_n 2, 1) := dk_28 (dk_at dksX3_playerAt_2 13 rfl rfl)
theorem dX3_playerAt_61 : decode cX3_playerAt 61 = .ok (.iadd, 1) := dk_96 (dk_at dksX3_playerAt_2 14 rfl rfl)
theorem dX3_playerAt_62 : decode cX3_playerAt 62 = .ok (.iaload, 1) := dk_46 (dk_at dksX3_playerAt_2 15 rfl rfl)
theorem dX3_playerAt_63 : decode cX3_playerAt 63 = .ok (.ireturn, 1) := dk_172 (dk_at dksX3_playerAt_2 16 rfl rfl)
abbrev cX3_next : ByteArray := prog_21_method_30_code
def yX3_next : MethodName := ⟨RX3, "next", "(I)I"⟩
def dkwX3_next_1 : List UInt8 := [180, 0, 31, 42, 27, 182, 0, 153, 46, 96, 172]
abbrev dktX3_next_1 : List UInt8 := dkwX3_next_1 ++ []
def dkwX3_next_0 : List UInt8 := [42, 27, 182, 0, 140, 153, 0, 7, 3, 167, 0, 23, 16, 100, 42, 180, 0, 44, 27, 46, 104, 42]
abbrev dktX3_next_0 : List UInt8 := dkwX3_next_0 ++ dktX3_next_1
theorem dksX3_next_0 : cX3_next.data.toList.drop 0 = dktX3_next_0 := by decide +kernel
theorem dksX3_next_1 : cX3_next.data.toList.drop 22 = dktX3_next_1 := dk_seg dksX3_next_0 22 rfl rfl
theorem dX3_next_0 : decode cX3_next 0 = .ok (.aload_n 0, 1) := dk_42 (dk_at dksX3_next_0 0 rfl rfl)
theorem dX3_next_1 : decode cX3_next 1 = .ok (.iload_n 1, 1) := dk_27 (dk_at dksX3_next_0 1 rfl rfl)
theorem dX3_next_2 : decode cX3_next 2 = .ok (.invokevirtual 140, 3) := dk_182 0 140 (dk_at dksX3_next_0 2 rfl rfl)
theorem dX3_next_5 : decode cX3_next 5 = .ok (.ifCond .eq 7, 3) := dk_153 0 7 (dk_at dksX3_next_0 5 rfl rfl)
theorem dX3_next_8 : decode cX3_next 8 = .ok (.iconst 0, 1) := dk_3 (dk_at dksX3_next_0 8 rfl rfl)
theorem dX3_next_9 : decode cX3_next 9 = .ok (.goto 23, 3) := dk_167 0 23 (dk_at dksX3_next_0 9 rfl rfl)
theorem dX3_next_12 : decode cX3_next 12 = .ok (.bipush 100, 2) := dk_16 100 (dk_at dksX3_next_0 12 rfl rfl)
theorem dX3_next_14 : decode cX3_next 14 = .ok (.aload_n 0, 1) := dk_42 (dk_at dksX3_next_0 14 rfl rfl)
theorem dX3_next_15 : decode cX3_next 15 = .ok (.getfield 44, 3) := dk_180 0 44 (dk_at dksX3_next_0 15 rfl rfl)
theorem dX3_next_18 : decode cX3_next 18 = .ok (.iload_n 1, 1) := dk_27 (dk_at dksX3_next_0 18 rfl rfl)
theorem dX3_next_19 : decode cX3_next 19 = .ok (.iaload, 1) := dk_46 (dk_at dksX3_next_0 19 rfl rfl)
theorem dX3_next_20 : decode cX3_next 20 = .ok (.imul, 1) := dk_104 (dk_at dksX3_next_0 20 rfl rfl)
theorem dX3_next_21 : decode cX3_next 21 = .ok (.aload_n 0, 1) := dk_42 (dk_at dksX3_next_0 21 rfl rfl)
theorem dX3_next_22 : decode cX3_next 22 = .ok (.getfield 31, 3) := dk_180 0 31 (dk_at dksX3_next_1 0 rfl rfl)
theorem dX3_next_25 : decode cX3_next 25 = .ok (.aload_n 0, 1) := dk_42 (dk_at dksX3_next_1 3 rfl rfl)
theorem dX3_next_26 : decode cX3_next 26 = .ok (.iload_n 1, 1) := dk_27 (dk_at dksX3_next_1 4 rfl rfl)
theorem dX3_next_27 : decode cX3_next 27 = .ok (.invokevirtual 153, 3) := dk_182 0 153 (dk_at dksX3_next_1 5 rfl rfl)
theorem dX3_next_30 : decode cX3_next 30 = .ok (.iaload, 1) := dk_46 (dk_at dksX3_next_1 8 rfl rfl)
theorem dX3_next_31 : decode cX3_next 31 = .ok (.iadd, 1) := dk_96 (dk_at dksX3_next_1 9 rfl rfl)
theorem dX3_next_32 : decode cX3_next 32 = .ok (.ireturn, 1) := dk_172 (dk_at dksX3_next_1 10 rfl rfl)
abbrev cX3_top : ByteArray := prog_21_method_33_code
def yX3_top : MethodName := ⟨RX3, "top", "(I)I"⟩
def dkwX3_top_0 : List UInt8 := [7, 27, 104, 42, 180, 0, 44, 27, 46, 96, 4, 100, 172]
abbrev dktX3_top_0 : List UInt8 := dkwX3_top_0 ++ []
theorem dksX3_top_0 : cX3_top.data.toList.drop 0 = dktX3_top_0 := by decide +kernel
theorem dX3_top_0 : decode cX3_top 0 = .ok (.iconst 4, 1) := dk_7 (dk_at dksX3_top_0 0 rfl rfl)
theorem dX3_top_1 : decode cX3_top 1 = .ok (.iload_n 1, 1) := dk_27 (dk_at dksX3_top_0 1 rfl rfl)
theorem dX3_top_2 : decode cX3_top 2 = .ok (.imul, 1) := dk_104 (dk_at dksX3_top_0 2 rfl rfl)
theorem dX3_top_3 : decode cX3_top 3 = .ok (.aload_n 0, 1) := dk_42 (dk_at dksX3_top_0 3 rfl rfl)
theorem dX3_top_4 : decode cX3_top 4 = .ok (.getfield 44, 3) := dk_180 0 44 (dk_at dksX3_top_0 4 rfl rfl)
theorem dX3_top_7 : decode cX3_top 7 = .ok (.iload_n 1, 1) := dk_27 (dk_at dksX3_top_0 7 rfl rfl)
theorem dX3_top_8 : decode cX3_top 8 = .ok (.iaload, 1) := dk_46 (dk_at dksX3_top_0 8 rfl rfl)
theorem dX3_top_9 : decode cX3_top 9 = .ok (.iadd, 1) := dk_96 (dk_at dksX3_top_0 9 rfl rfl)
theorem dX3_top_10 : decode cX3_top 10 = .ok (.iconst 1, 1) := dk_4 (dk_at dksX3_top_0 10 rfl rfl)
theorem dX3_top_11 : decode cX3_top 11 = .ok (.isub, 1) := dk_100 (dk_at dksX3_top_0 11 rfl rfl)
theorem dX3_top_12 : decode cX3_top 12 = .ok (.ireturn, 1) := dk_172 (dk_at dksX3_top_0 12 rfl rfl)
abbrev cX3_count : ByteArray := prog_21_method_31_code
def yX3_count : MethodName := ⟨RX3, "count", "(I)I"⟩
def dkwX3_count_0 : List UInt8 := [42, 27, 182, 0, 140, 153, 0, 7, 3, 167, 0, 9, 42, 180, 0, 50, 27, 46, 172]
abbrev dktX3_count_0 : List UInt8 := dkwX3_count_0 ++ []
theorem dksX3_count_0 : cX3_count.data.toList.drop 0 = dktX3_count_0 := by decide +kernel
theorem dX3_count_0 : decode cX3_count 0 = .ok (.aload_n 0, 1) := dk_42 (dk_at dksX3_count_0 0 rfl rfl)
theorem dX3_count_1 : decode cX3_count 1 = .ok (.iload_n 1, 1) := dk_27 (dk_at dksX3_count_0 1 rfl rfl)
theorem dX3_count_2 : decode cX3_count 2 = .ok (.invokevirtual 140, 3) := dk_182 0 140 (dk_at dksX3_count_0 2 rfl rfl)
theorem dX3_count_5 : decode cX3_count 5 = .ok (.ifCond .eq 7, 3) := dk_153 0 7 (dk_at dksX3_count_0 5 rfl rfl)
theorem dX3_count_8 : decode cX3_count 8 = .ok (.iconst 0, 1) := dk_3 (dk_at dksX3_count_0 8 rfl rfl)
theorem dX3_count_9 : decode cX3_count 9 = .ok (.goto 9, 3) := dk_167 0 9 (dk_at dksX3_count_0 9 rfl rfl)
theorem dX3_count_12 : decode cX3_count 12 = .ok (.aload_n 0, 1) := dk_42 (dk_at dksX3_count_0 12 rfl rfl)
theorem dX3_count_13 : decode cX3_count 13 = .ok (.getfield 50, 3) := dk_180 0 50 (dk_at dksX3_count_0 13 rfl rfl)
theorem dX3_count_16 : decode cX3_count 16 = .ok (.iload_n 1, 1) := dk_27 (dk_at dksX3_count_0 16 rfl rfl)
theorem dX3_count_17 : decode cX3_count 17 = .ok (.iaload, 1) := dk_46 (dk_at dksX3_count_0 17 rfl rfl)
theorem dX3_count_18 : decode cX3_count 18 = .ok (.ireturn, 1) := dk_172 (dk_at dksX3_count_0 18 rfl rfl)
abbrev cX3_waits : ByteArray := prog_21_method_32_code
def yX3_waits : MethodName := ⟨RX3, "waits", "(I)I"⟩
def dkwX3_waits_1 : List UInt8 := [167, 0, 9, 42, 180, 0, 53, 27, 46, 172]
abbrev dktX3_waits_1 : List UInt8 := dkwX3_waits_1 ++ []
def dkwX3_waits_0 : List UInt8 := [42, 27, 182, 0, 140, 153, 0, 7, 3, 167, 0, 23, 42, 180, 0, 56, 27, 46, 155, 0, 8, 16, 100]
abbrev dktX3_waits_0 : List UInt8 := dkwX3_waits_0 ++ dktX3_waits_1
theorem dksX3_waits_0 : cX3_waits.data.toList.drop 0 = dktX3_waits_0 := by decide +kernel
theorem dksX3_waits_1 : cX3_waits.data.toList.drop 23 = dktX3_waits_1 := dk_seg dksX3_waits_0 23 rfl rfl
theorem dX3_waits_0 : decode cX3_waits 0 = .ok (.aload_n 0, 1) := dk_42 (dk_at dksX3_waits_0 0 rfl rfl)
theorem dX3_waits_1 : decode cX3_waits 1 = .ok (.iload_n 1, 1) := dk_27 (dk_at dksX3_waits_0 1 rfl rfl)
theorem dX3_waits_2 : decode cX3_waits 2 = .ok (.invokevirtual 140, 3) := dk_182 0 140 (dk_at dksX3_waits_0 2 rfl rfl)
theorem dX3_waits_5 : decode cX3_waits 5 = .ok (.ifCond .eq 7, 3) := dk_153 0 7 (dk_at dksX3_waits_0 5 rfl rfl)
theorem dX3_waits_8 : decode cX3_waits 8 = .ok (.iconst 0, 1) := dk_3 (dk_at dksX3_waits_0 8 rfl rfl)
theorem dX3_waits_9 : decode cX3_waits 9 = .ok (.goto 23, 3) := dk_167 0 23 (dk_at dksX3_waits_0 9 rfl rfl)
theorem dX3_waits_12 : decode cX3_waits 12 = .ok (.aload_n 0, 1) := dk_42 (dk_at dksX3_waits_0 12 rfl rfl)
theorem dX3_waits_13 : decode cX3_waits 13 = .ok (.getfield 56, 3) := dk_180 0 56 (dk_at dksX3_waits_0 13 rfl rfl)
theorem dX3_waits_16 : decode cX3_waits 16 = .ok (.iload_n 1, 1) := dk_27 (dk_at dksX3_waits_0 16 rfl rfl)
theorem dX3_waits_17 : decode cX3_waits 17 = .ok (.iaload, 1) := dk_46 (dk_at dksX3_waits_0 17 rfl rfl)
theorem dX3_waits_18 : decode cX3_waits 18 = .ok (.ifCond .lt 8, 3) := dk_155 0 8 (dk_at dksX3_waits_0 18 rfl rfl)
theorem dX3_waits_21 : decode cX3_waits 21 = .ok (.bipush 100, 2) := dk_16 100 (dk_at dksX3_waits_0 21 rfl rfl)
theorem dX3_waits_23 : decode cX3_waits 23 = .ok (.goto 9, 3) := dk_167 0 9 (dk_at dksX3_waits_1 0 rfl rfl)
theorem dX3_waits_26 : decode cX3_waits 26 = .ok (.aload_n 0, 1) := dk_42 (dk_at dksX3_waits_1 3 rfl rfl)
theorem dX3_waits_27 : decode cX3_waits 27 = .ok (.getfield 53, 3) := dk_180 0 53 (dk_at dksX3_waits_1 4 rfl rfl)
theorem dX3_waits_30 : decode cX3_waits 30 = .ok (.iload_n 1, 1) := dk_27 (dk_at dksX3_waits_1 7 rfl rfl)
theorem dX3_waits_31 : decode cX3_waits 31 = .ok (.iaload, 1) := dk_46 (dk_at dksX3_waits_1 8 rfl rfl)
theorem dX3_waits_32 : decode cX3_waits 32 = .ok (.ireturn, 1) := dk_172 (dk_at dksX3_waits_1 9 rfl rfl)
abbrev cX3_tick : ByteArray := prog_21_method_41_code
def yX3_tick : MethodName := ⟨RX3, "tick", "(I)I"⟩
def dkwX3_tick_4 : List UInt8 := [167, 255, 200, 42, 182, 0, 185, 132, 2, 1, 167, 255, 183, 42, 180, 0, 179, 172]
abbrev dktX3_tick_4 : List UInt8 := dkwX3_tick_4 ++ []
def dkwX3_tick_3 : List UInt8 := [180, 0, 65, 16, 6, 29, 104, 21, 4, 96, 46, 182, 0, 182, 132, 4, 1, 167, 255, 217, 132, 3, 1]
abbrev dktX3_tick_3 : List UInt8 := dkwX3_tick_3 ++ dktX3_tick_4
def dkwX3_tick_2 : List UInt8 := [54, 4, 21, 4, 42, 180, 0, 68, 29, 46, 162, 0, 34, 42, 180, 0, 38, 29, 51, 154, 0, 25, 42, 42]
abbrev dktX3_tick_2 : List UInt8 := dkwX3_tick_2 ++ dktX3_tick_3
def dkwX3_tick_1 : List UInt8 := [172, 42, 3, 181, 0, 179, 3, 61, 28, 27, 162, 0, 74, 3, 62, 29, 42, 180, 0, 100, 162, 0, 54, 3]
abbrev dktX3_tick_1 : List UInt8 := dkwX3_tick_1 ++ dktX3_tick_2
def dkwX3_tick_0 : List UInt8 := [42, 27, 4, 16, 50, 184, 0, 96, 154, 0, 7, 4, 167, 0, 4, 3, 4, 182, 0, 103, 153, 0, 5, 3]
abbrev dktX3_tick_0 : List UInt8 := dkwX3_tick_0 ++ dktX3_tick_1
theorem dksX3_tick_0 : cX3_tick.data.toList.drop 0 = dktX3_tick_0 := by decide +kernel
theorem dksX3_tick_1 : cX3_tick.data.toList.drop 24 = dktX3_tick_1 := dk_seg dksX3_tick_0 24 rfl rfl
theorem dksX3_tick_2 : cX3_tick.data.toList.drop 48 = dktX3_tick_2 := dk_seg dksX3_tick_1 24 rfl rfl
theorem dksX3_tick_3 : cX3_tick.data.toList.drop 72 = dktX3_tick_3 := dk_seg dksX3_tick_2 24 rfl rfl
theorem dksX3_tick_4 : cX3_tick.data.toList.drop 95 = dktX3_tick_4 := dk_seg dksX3_tick_3 23 rfl rfl
theorem dX3_tick_0 : decode cX3_tick 0 = .ok (.aload_n 0, 1) := dk_42 (dk_at dksX3_tick_0 0 rfl rfl)
theorem dX3_tick_1 : decode cX3_tick 1 = .ok (.iload_n 1, 1) := dk_27 (dk_at dksX3_tick_0 1 rfl rfl)
theorem dX3_tick_2 : decode cX3_tick 2 = .ok (.iconst 1, 1) := dk_4 (dk_at dksX3_tick_0 2 rfl rfl)
theorem dX3_tick_3 : decode cX3_tick 3 = .ok (.bipush 50, 2) := dk_16 50 (dk_at dksX3_tick_0 3 rfl rfl)
theorem dX3_tick_5 : decode cX3_tick 5 = .ok (.invokestatic 96, 3) := dk_184 0 96 (dk_at dksX3_tick_0 5 rfl rfl)
theorem dX3_tick_8 : decode cX3_tick 8 = .ok (.ifCond .ne 7, 3) := dk_154 0 7 (dk_at dksX3_tick_0 8 rfl rfl)
theorem dX3_tick_11 : decode cX3_tick 11 = .ok (.iconst 1, 1) := dk_4 (dk_at dksX3_tick_0 11 rfl rfl)
theorem dX3_tick_12 : decode cX3_tick 12 = .ok (.goto 4, 3) := dk_167 0 4 (dk_at dksX3_tick_0 12 rfl rfl)
theorem dX3_tick_15 : decode cX3_tick 15 = .ok (.iconst 0, 1) := dk_3 (dk_at dksX3_tick_0 15 rfl rfl)
theorem dX3_tick_16 : decode cX3_tick 16 = .ok (.iconst 1, 1) := dk_4 (dk_at dksX3_tick_0 16 rfl rfl)
theorem dX3_tick_17 : decode cX3_tick 17 = .ok (.invokevirtual 103, 3) := dk_182 0 103 (dk_at dksX3_tick_0 17 rfl rfl)
theorem dX3_tick_20 : decode cX3_tick 20 = .ok (.ifCond .eq 5, 3) := dk_153 0 5 (dk_at dksX3_tick_0 20 rfl rfl)
theorem dX3_tick_23 : decode cX3_tick 23 = .ok (.iconst 0, 1) := dk_3 (dk_at dksX3_tick_0 23 rfl rfl)
theorem dX3_tick_24 : decode cX3_tick 24 = .ok (.ireturn, 1) := dk_172 (dk_at dksX3_tick_1 0 rfl rfl)
theorem dX3_tick_25 : decode cX3_tick 25 = .ok (.aload_n 0, 1) := dk_42 (dk_at dksX3_tick_1 1 rfl rfl)
theorem dX3_tick_26 : decode cX3_tick 26 = .ok (.iconst 0, 1) := dk_3 (dk_at dksX3_tick_1 2 rfl rfl)
theorem dX3_tick_27 : decode cX3_tick 27 = .ok (.putfield 179, 3) := dk_181 0 179 (dk_at dksX3_tick_1 3 rfl rfl)
theorem dX3_tick_30 : decode cX3_tick 30 = .ok (.iconst 0, 1) := dk_3 (dk_at dksX3_tick_1 6 rfl rfl)
theorem dX3_tick_31 : decode cX3_tick 31 = .ok (.istore_n 2, 1) := dk_61 (dk_at dksX3_tick_1 7 rfl rfl)
theorem dX3_tick_32 : decode cX3_tick 32 = .ok (.iload_n 2, 1) := dk_28 (dk_at dksX3_tick_1 8 rfl rfl)
theorem dX3_tick_33 : decode cX3_tick 33 = .ok (.iload_n 1, 1) := dk_27 (dk_at dksX3_tick_1 9 rfl rfl)
theorem dX3_tick_34 : decode cX3_tick 34 = .ok (.if_icmp .ge 74, 3) := dk_162 0 74 (dk_at dksX3_tick_1 10 rfl rfl)
theorem dX3_tick_37 : decode cX3_tick 37 = .ok (.iconst 0, 1) := dk_3 (dk_at dksX3_tick_1 13 rfl rfl)
theorem dX3_tick_38 : decode cX3_tick 38 = .ok (.istore_n 3, 1) := dk_62 (dk_at dksX3_tick_1 14 rfl rfl)
theorem dX3_tick_39 : decode cX3_tick 39 = .ok (.iload_n 3, 1) := dk_29 (dk_at dksX3_tick_1 15 rfl rfl)
theorem dX3_tick_40 : decode cX3_tick 40 = .ok (.aload_n 0, 1) := dk_42 (dk_at dksX3_tick_1 16 rfl rfl)
theorem dX3_tick_41 : decode cX3_tick 41 = .ok (.getfield 100, 3) := dk_180 0 100 (dk_at dksX3_tick_1 17 rfl rfl)
theorem dX3_tick_44 : decode cX3_tick 44 = .ok (.if_icmp .ge 54, 3) := dk_162 0 54 (dk_at dksX3_tick_1 20 rfl rfl)
theorem dX3_tick_47 : decode cX3_tick 47 = .ok (.iconst 0, 1) := dk_3 (dk_at dksX3_tick_1 23 rfl rfl)
theorem dX3_tick_48 : decode cX3_tick 48 = .ok (.istore 4, 2) := dk_54 4 (dk_at dksX3_tick_2 0 rfl rfl)
theorem dX3_tick_50 : decode cX3_tick 50 = .ok (.iload 4, 2) := dk_21 4 (dk_at dksX3_tick_2 2 rfl rfl)
theorem dX3_tick_52 : decode cX3_tick 52 = .ok (.aload_n 0, 1) := dk_42 (dk_at dksX3_tick_2 4 rfl rfl)
theorem dX3_tick_53 : decode cX3_tick 53 = .ok (.getfield 68, 3) := dk_180 0 68 (dk_at dksX3_tick_2 5 rfl rfl)
theorem dX3_tick_56 : decode cX3_tick 56 = .ok (.iload_n 3, 1) := dk_29 (dk_at dksX3_tick_2 8 rfl rfl)
theorem dX3_tick_57 : decode cX3_tick 57 = .ok (.iaload, 1) := dk_46 (dk_at dksX3_tick_2 9 rfl rfl)
theorem dX3_tick_58 : decode cX3_tick 58 = .ok (.if_icmp .ge 34, 3) := dk_162 0 34 (dk_at dksX3_tick_2 10 rfl rfl)
theorem dX3_tick_61 : decode cX3_tick 61 = .ok (.aload_n 0, 1) := dk_42 (dk_at dksX3_tick_2 13 rfl rfl)
theorem dX3_tick_62 : decode cX3_tick 62 = .ok (.getfield 38, 3) := dk_180 0 38 (dk_at dksX3_tick_2 14 rfl rfl)
theorem dX3_tick_65 : decode cX3_tick 65 = .ok (.iload_n 3, 1) := dk_29 (dk_at dksX3_tick_2 17 rfl rfl)
theorem dX3_tick_66 : decode cX3_tick 66 = .ok (.baload, 1) := dk_51 (dk_at dksX3_tick_2 18 rfl rfl)
theorem dX3_tick_67 : decode cX3_tick 67 = .ok (.ifCond .ne 25, 3) := dk_154 0 25 (dk_at dksX3_tick_2 19 rfl rfl)
theorem dX3_tick_70 : decode cX3_tick 70 = .ok (.aload_n 0, 1) := dk_42 (dk_at dksX3_tick_2 22 rfl rfl)
theorem dX3_tick_71 : decode cX3_tick 71 = .ok (.aload_n 0, 1) := dk_42 (dk_at dksX3_tick_2 23 rfl rfl)
theorem dX3_tick_72 : decode cX3_tick 72 = .ok (.getfield 65, 3) := dk_180 0 65 (dk_at dksX3_tick_3 0 rfl rfl)
theorem dX3_tick_75 : decode cX3_tick 75 = .ok (.bipush 6, 2) := dk_16 6 (dk_at dksX3_tick_3 3 rfl rfl)
theorem dX3_tick_77 : decode cX3_tick 77 = .ok (.iload_n 3, 1) := dk_29 (dk_at dksX3_tick_3 5 rfl rfl)
theorem dX3_tick_78 : decode cX3_tick 78 = .ok (.imul, 1) := dk_104 (dk_at dksX3_tick_3 6 rfl rfl)
theorem dX3_tick_79 : decode cX3_tick 79 = .ok (.iload 4, 2) := dk_21 4 (dk_at dksX3_tick_3 7 rfl rfl)
theorem dX3_tick_81 : decode cX3_tick 81 = .ok (.iadd, 1) := dk_96 (dk_at dksX3_tick_3 9 rfl rfl)
theorem dX3_tick_82 : decode cX3_tick 82 = .ok (.iaload, 1) := dk_46 (dk_at dksX3_tick_3 10 rfl rfl)
theorem dX3_tick_83 : decode cX3_tick 83 = .ok (.invokevirtual 182, 3) := dk_182 0 182 (dk_at dksX3_tick_3 11 rfl rfl)
theorem dX3_tick_86 : decode cX3_tick 86 = .ok (.iinc 4 1, 3) := dk_132 4 1 (dk_at dksX3_tick_3 14 rfl rfl)
theorem dX3_tick_89 : decode cX3_tick 89 = .ok (.goto (-39), 3) := dk_167 255 217 (dk_at dksX3_tick_3 17 rfl rfl)
theorem dX3_tick_92 : decode cX3_tick 92 = .ok (.iinc 3 1, 3) := dk_132 3 1 (dk_at dksX3_tick_3 20 rfl rfl)
theorem dX3_tick_95 : decode cX3_tick 95 = .ok (.goto (-56), 3) := dk_167 255 200 (dk_at dksX3_tick_4 0 rfl rfl)
theorem dX3_tick_98 : decode cX3_tick 98 = .ok (.aload_n 0, 1) := dk_42 (dk_at dksX3_tick_4 3 rfl rfl)
theorem dX3_tick_99 : decode cX3_tick 99 = .ok (.invokevirtual 185, 3) := dk_182 0 185 (dk_at dksX3_tick_4 4 rfl rfl)
theorem dX3_tick_102 : decode cX3_tick 102 = .ok (.iinc 2 1, 3) := dk_132 2 1 (dk_at dksX3_tick_4 7 rfl rfl)
theorem dX3_tick_105 : decode cX3_tick 105 = .ok (.goto (-73), 3) := dk_167 255 183 (dk_at dksX3_tick_4 10 rfl rfl)
theorem dX3_tick_108 : decode cX3_tick 108 = .ok (.aload_n 0, 1) := dk_42 (dk_at dksX3_tick_4 13 rfl rfl)
theorem dX3_tick_109 : decode cX3_tick 109 = .ok (.getfield 179, 3) := dk_180 0 179 (dk_at dksX3_tick_4 14 rfl rfl)
theorem dX3_tick_112 : decode cX3_tick 112 = .ok (.ireturn, 1) := dk_172 (dk_at dksX3_tick_4 17 rfl rfl)
abbrev cX3_turn : ByteArray := prog_21_method_34_code
def yX3_turn : MethodName := ⟨RX3, "turn", "(I)V"⟩
def dkwX3_turn_6 : List UInt8 := [42, 27, 21, 4, 182, 0, 160, 62, 167, 255, 145, 177]
abbrev dktX3_turn_6 : List UInt8 := dkwX3_turn_6 ++ []
def dkwX3_turn_5 : List UInt8 := [181, 0, 156, 21, 5, 153, 0, 19, 42, 42, 180, 0, 28, 21, 4, 46, 21, 4, 182, 0, 126, 167, 0, 11]
abbrev dktX3_turn_5 : List UInt8 := dkwX3_turn_5 ++ dktX3_turn_6
def dkwX3_turn_4 : List UInt8 := [180, 0, 44, 27, 92, 46, 4, 100, 79, 167, 0, 45, 132, 2, 1, 42, 89, 180, 0, 156, 10, 97]
abbrev dktX3_turn_4 : List UInt8 := dkwX3_turn_4 ++ dktX3_turn_5
def dkwX3_turn_3 : List UInt8 := [4, 167, 0, 4, 3, 54, 5, 21, 5, 153, 0, 26, 42, 180, 0, 44, 27, 46, 4, 164, 0, 16, 42]
abbrev dktX3_turn_3 : List UInt8 := dkwX3_turn_3 ++ dktX3_turn_4
def dkwX3_turn_2 : List UInt8 := [42, 27, 182, 0, 153, 54, 4, 42, 180, 0, 31, 21, 4, 46, 42, 180, 0, 19, 21, 4, 46, 161, 0, 7]
abbrev dktX3_turn_2 : List UInt8 := dkwX3_turn_2 ++ dktX3_turn_3
def dkwX3_turn_1 : List UInt8 := [180, 0, 56, 27, 46, 156, 0, 7, 4, 167, 0, 4, 3, 62, 29, 153, 0, 113, 28, 16, 8, 162, 0, 107]
abbrev dktX3_turn_1 : List UInt8 := dkwX3_turn_1 ++ dktX3_turn_2
def dkwX3_turn_0 : List UInt8 := [42, 180, 0, 53, 27, 46, 158, 0, 14, 42, 180, 0, 53, 27, 92, 46, 4, 100, 79, 177, 3, 61, 42]
abbrev dktX3_turn_0 : List UInt8 := dkwX3_turn_0 ++ dktX3_turn_1
theorem dksX3_turn_0 : cX3_turn.data.toList.drop 0 = dktX3_turn_0 := by decide +kernel
theorem dksX3_turn_1 : cX3_turn.data.toList.drop 23 = dktX3_turn_1 := dk_seg dksX3_turn_0 23 rfl rfl
theorem dksX3_turn_2 : cX3_turn.data.toList.drop 47 = dktX3_turn_2 := dk_seg dksX3_turn_1 24 rfl rfl
theorem dksX3_turn_3 : cX3_turn.data.toList.drop 71 = dktX3_turn_3 := dk_seg dksX3_turn_2 24 rfl rfl
theorem dksX3_turn_4 : cX3_turn.data.toList.drop 94 = dktX3_turn_4 := dk_seg dksX3_turn_3 23 rfl rfl
theorem dksX3_turn_5 : cX3_turn.data.toList.drop 116 = dktX3_turn_5 := dk_seg dksX3_turn_4 22 rfl rfl
theorem dksX3_turn_6 : cX3_turn.data.toList.drop 140 = dktX3_turn_6 := dk_seg dksX3_turn_5 24 rfl rfl
theorem dX3_turn_0 : decode cX3_turn 0 = .ok (.aload_n 0, 1) := dk_42 (dk_at dksX3_turn_0 0 rfl rfl)
theorem dX3_turn_1 : decode cX3_turn 1 = .ok (.getfield 53, 3) := dk_180 0 53 (dk_at dksX3_turn_0 1 rfl rfl)
theorem dX3_turn_4 : decode cX3_turn 4 = .ok (.iload_n 1, 1) := dk_27 (dk_at dksX3_turn_0 4 rfl rfl)
theorem dX3_turn_5 : decode cX3_turn 5 = .ok (.iaload, 1) := dk_46 (dk_at dksX3_turn_0 5 rfl rfl)
theorem dX3_turn_6 : decode cX3_turn 6 = .ok (.ifCond .le 14, 3) := dk_158 0 14 (dk_at dksX3_turn_0 6 rfl rfl)
theorem dX3_turn_9 : decode cX3_turn 9 = .ok (.aload_n 0, 1) := dk_42 (dk_at dksX3_turn_0 9 rfl rfl)
theorem dX3_turn_10 : decode cX3_turn 10 = .ok (.getfield 53, 3) := dk_180 0 53 (dk_at dksX3_turn_0 10 rfl rfl)
theorem dX3_turn_13 : decode cX3_turn 13 = .ok (.iload_n 1, 1) := dk_27 (dk_at dksX3_turn_0 13 rfl rfl)
theorem dX3_turn_14 : decode cX3_turn 14 = .ok (.dup2, 1) := dk_92 (dk_at dksX3_turn_0 14 rfl rfl)
theorem dX3_turn_15 : decode cX3_turn 15 = .ok (.iaload, 1) := dk_46 (dk_at dksX3_turn_0 15 rfl rfl)
theorem dX3_turn_16 : decode cX3_turn 16 = .ok (.iconst 1, 1) := dk_4 (dk_at dksX3_turn_0 16 rfl rfl)
theorem dX3_turn_17 : decode cX3_turn 17 = .ok (.isub, 1) := dk_100 (dk_at dksX3_turn_0 17 rfl rfl)
theorem dX3_turn_18 : decode cX3_turn 18 = .ok (.iastore, 1) := dk_79 (dk_at dksX3_turn_0 18 rfl rfl)
theorem dX3_turn_19 : decode cX3_turn 19 = .ok (.return_, 1) := dk_177 (dk_at dksX3_turn_0 19 rfl rfl)
theorem dX3_turn_20 : decode cX3_turn 20 = .ok (.iconst 0, 1) := dk_3 (dk_at dksX3_turn_0 20 rfl rfl)
theorem dX3_turn_21 : decode cX3_turn 21 = .ok (.istore_n 2, 1) := dk_61 (dk_at dksX3_turn_0 21 rfl rfl)
theorem dX3_turn_22 : decode cX3_turn 22 = .ok (.aload_n 0, 1) := dk_42 (dk_at dksX3_turn_0 22 rfl rfl)
theorem dX3_turn_23 : decode cX3_turn 23 = .ok (.getfield 56, 3) := dk_180 0 56 (dk_at dksX3_turn_1 0 rfl rfl)
theorem dX3_turn_26 : decode cX3_turn 26 = .ok (.iload_n 1, 1) := dk_27 (dk_at dksX3_turn_1 3 rfl rfl)
theorem dX3_turn_27 : decode cX3_turn 27 = .ok (.iaload, 1) := dk_46 (dk_at dksX3_turn_1 4 rfl rfl)
theorem dX3_turn_28 : decode cX3_turn 28 = .ok (.ifCond .ge 7, 3) := dk_156 0 7 (dk_at dksX3_turn_1 5 rfl rfl)
theorem dX3_turn_31 : decode cX3_turn 31 = .ok (.iconst 1, 1) := dk_4 (dk_at dksX3_turn_1 8 rfl rfl)
theorem dX3_turn_32 : decode cX3_turn 32 = .ok (.goto 4, 3) := dk_167 0 4 (dk_at dksX3_turn_1 9 rfl rfl)
theorem dX3_turn_35 : decode cX3_turn 35 = .ok (.iconst 0, 1) := dk_3 (dk_at dksX3_turn_1 12 rfl rfl)
theorem dX3_turn_36 : decode cX3_turn 36 = .ok (.istore_n 3, 1) := dk_62 (dk_at dksX3_turn_1 13 rfl rfl)
theorem dX3_turn_37 : decode cX3_turn 37 = .ok (.iload_n 3, 1) := dk_29 (dk_at dksX3_turn_1 14 rfl rfl)
theorem dX3_turn_38 : decode cX3_turn 38 = .ok (.ifCond .eq 113, 3) := dk_153 0 113 (dk_at dksX3_turn_1 15 rfl rfl)
theorem dX3_turn_41 : decode cX3_turn 41 = .ok (.iload_n 2, 1) := dk_28 (dk_at dksX3_turn_1 18 rfl rfl)
theorem dX3_turn_42 : decode cX3_turn 42 = .ok (.bipush 8, 2) := dk_16 8 (dk_at dksX3_turn_1 19 rfl rfl)
theorem dX3_turn_44 : decode cX3_turn 44 = .ok (.if_icmp .ge 107, 3) := dk_162 0 107 (dk_at dksX3_turn_1 21 rfl rfl)
theorem dX3_turn_47 : decode cX3_turn 47 = .ok (.aload_n 0, 1) := dk_42 (dk_at dksX3_turn_2 0 rfl rfl)
theorem dX3_turn_48 : decode cX3_turn 48 = .ok (.iload_n 1, 1) := dk_27 (dk_at dksX3_turn_2 1 rfl rfl)
theorem dX3_turn_49 : decode cX3_turn 49 = .ok (.invokevirtual 153, 3) := dk_182 0 153 (dk_at dksX3_turn_2 2 rfl rfl)
theorem dX3_turn_52 : decode cX3_turn 52 = .ok (.istore 4, 2) := dk_54 4 (dk_at dksX3_turn_2 5 rfl rfl)
theorem dX3_turn_54 : decode cX3_turn 54 = .ok (.aload_n 0, 1) := dk_42 (dk_at dksX3_turn_2 7 rfl rfl)
theorem dX3_turn_55 : decode cX3_turn 55 = .ok (.getfield 31, 3) := dk_180 0 31 (dk_at dksX3_turn_2 8 rfl rfl)
theorem dX3_turn_58 : decode cX3_turn 58 = .ok (.iload 4, 2) := dk_21 4 (dk_at dksX3_turn_2 11 rfl rfl)
theorem dX3_turn_60 : decode cX3_turn 60 = .ok (.iaload, 1) := dk_46 (dk_at dksX3_turn_2 13 rfl rfl)
theorem dX3_turn_61 : decode cX3_turn 61 = .ok (.aload_n 0, 1) := dk_42 (dk_at dksX3_turn_2 14 rfl rfl)
theorem dX3_turn_62 : decode cX3_turn 62 = .ok (.getfield 19, 3) := dk_180 0 19 (dk_at dksX3_turn_2 15 rfl rfl)
theorem dX3_turn_65 : decode cX3_turn 65 = .ok (.iload 4, 2) := dk_21 4 (dk_at dksX3_turn_2 18 rfl rfl)
theorem dX3_turn_67 : decode cX3_turn 67 = .ok (.iaload, 1) := dk_46 (dk_at dksX3_turn_2 20 rfl rfl)
theorem dX3_turn_68 : decode cX3_turn 68 = .ok (.if_icmp .lt 7, 3) := dk_161 0 7 (dk_at dksX3_turn_2 21 rfl rfl)
theorem dX3_turn_71 : decode cX3_turn 71 = .ok (.iconst 1, 1) := dk_4 (dk_at dksX3_turn_3 0 rfl rfl)
theorem dX3_turn_72 : decode cX3_turn 72 = .ok (.goto 4, 3) := dk_167 0 4 (dk_at dksX3_turn_3 1 rfl rfl)
theorem dX3_turn_75 : decode cX3_turn 75 = .ok (.iconst 0, 1) := dk_3 (dk_at dksX3_turn_3 4 rfl rfl)
theorem dX3_turn_76 : decode cX3_turn 76 = .ok (.istore 5, 2) := dk_54 5 (dk_at dksX3_turn_3 5 rfl rfl)
theorem dX3_turn_78 : decode cX3_turn 78 = .ok (.iload 5, 2) := dk_21 5 (dk_at dksX3_turn_3 7 rfl rfl)
theorem dX3_turn_80 : decode cX3_turn 80 = .ok (.ifCond .eq 26, 3) := dk_153 0 26 (dk_at dksX3_turn_3 9 rfl rfl)
theorem dX3_turn_83 : decode cX3_turn 83 = .ok (.aload_n 0, 1) := dk_42 (dk_at dksX3_turn_3 12 rfl rfl)
theorem dX3_turn_84 : decode cX3_turn 84 = .ok (.getfield 44, 3) := dk_180 0 44 (dk_at dksX3_turn_3 13 rfl rfl)
theorem dX3_turn_87 : decode cX3_turn 87 = .ok (.iload_n 1, 1) := dk_27 (dk_at dksX3_turn_3 16 rfl rfl)
theorem dX3_turn_88 : decode cX3_turn 88 = .ok (.iaload, 1) := dk_46 (dk_at dksX3_turn_3 17 rfl rfl)
theorem dX3_turn_89 : decode cX3_turn 89 = .ok (.iconst 1, 1) := dk_4 (dk_at dksX3_turn_3 18 rfl rfl)
theorem dX3_turn_90 : decode cX3_turn 90 = .ok (.if_icmp .le 16, 3) := dk_164 0 16 (dk_at dksX3_turn_3 19 rfl rfl)
theorem dX3_turn_93 : decode cX3_turn 93 = .ok (.aload_n 0, 1) := dk_42 (dk_at dksX3_turn_3 22 rfl rfl)
theorem dX3_turn_94 : decode cX3_turn 94 = .ok (.getfield 44, 3) := dk_180 0 44 (dk_at dksX3_turn_4 0 rfl rfl)
theorem dX3_turn_97 : decode cX3_turn 97 = .ok (.iload_n 1, 1) := dk_27 (dk_at dksX3_turn_4 3 rfl rfl)
theorem dX3_turn_98 : decode cX3_turn 98 = .ok (.dup2, 1) := dk_92 (dk_at dksX3_turn_4 4 rfl rfl)
theorem dX3_turn_99 : decode cX3_turn 99 = .ok (.iaload, 1) := dk_46 (dk_at dksX3_turn_4 5 rfl rfl)
theorem dX3_turn_100 : decode cX3_turn 100 = .ok (.iconst 1, 1) := dk_4 (dk_at dksX3_turn_4 6 rfl rfl)
theorem dX3_turn_101 : decode cX3_turn 101 = .ok (.isub, 1) := dk_100 (dk_at dksX3_turn_4 7 rfl rfl)
theorem dX3_turn_102 : decode cX3_turn 102 = .ok (.iastore, 1) := dk_79 (dk_at dksX3_turn_4 8 rfl rfl)
theorem dX3_turn_103 : decode cX3_turn 103 = .ok (.goto 45, 3) := dk_167 0 45 (dk_at dksX3_turn_4 9 rfl rfl)
theorem dX3_turn_106 : decode cX3_turn 106 = .ok (.iinc 2 1, 3) := dk_132 2 1 (dk_at dksX3_turn_4 12 rfl rfl)
theorem dX3_turn_109 : decode cX3_turn 109 = .ok (.aload_n 0, 1) := dk_42 (dk_at dksX3_turn_4 15 rfl rfl)
theorem dX3_turn_110 : decode cX3_turn 110 = .ok (.dup, 1) := dk_89 (dk_at dksX3_turn_4 16 rfl rfl)
theorem dX3_turn_111 : decode cX3_turn 111 = .ok (.getfield 156, 3) := dk_180 0 156 (dk_at dksX3_turn_4 17 rfl rfl)
theorem dX3_turn_114 : decode cX3_turn 114 = .ok (.lconst 1, 1) := dk_10 (dk_at dksX3_turn_4 20 rfl rfl)
theorem dX3_turn_115 : decode cX3_turn 115 = .ok (.ladd, 1) := dk_97 (dk_at dksX3_turn_4 21 rfl rfl)
theorem dX3_turn_116 : decode cX3_turn 116 = .ok (.putfield 156, 3) := dk_181 0 156 (dk_at dksX3_turn_5 0 rfl rfl)
theorem dX3_turn_119 : decode cX3_turn 119 = .ok (.iload 5, 2) := dk_21 5 (dk_at dksX3_turn_5 3 rfl rfl)
theorem dX3_turn_121 : decode cX3_turn 121 = .ok (.ifCond .eq 19, 3) := dk_153 0 19 (dk_at dksX3_turn_5 5 rfl rfl)
theorem dX3_turn_124 : decode cX3_turn 124 = .ok (.aload_n 0, 1) := dk_42 (dk_at dksX3_turn_5 8 rfl rfl)
theorem dX3_turn_125 : decode cX3_turn 125 = .ok (.aload_n 0, 1) := dk_42 (dk_at dksX3_turn_5 9 rfl rfl)
theorem dX3_turn_126 : decode cX3_turn 126 = .ok (.getfield 28, 3) := dk_180 0 28 (dk_at dksX3_turn_5 10 rfl rfl)
theorem dX3_turn_129 : decode cX3_turn 129 = .ok (.iload 4, 2) := dk_21 4 (dk_at dksX3_turn_5 13 rfl rfl)
theorem dX3_turn_131 : decode cX3_turn 131 = .ok (.iaload, 1) := dk_46 (dk_at dksX3_turn_5 15 rfl rfl)
theorem dX3_turn_132 : decode cX3_turn 132 = .ok (.iload 4, 2) := dk_21 4 (dk_at dksX3_turn_5 16 rfl rfl)
theorem dX3_turn_134 : decode cX3_turn 134 = .ok (.invokevirtual 126, 3) := dk_182 0 126 (dk_at dksX3_turn_5 18 rfl rfl)
theorem dX3_turn_137 : decode cX3_turn 137 = .ok (.goto 11, 3) := dk_167 0 11 (dk_at dksX3_turn_5 21 rfl rfl)
theorem dX3_turn_140 : decode cX3_turn 140 = .ok (.aload_n 0, 1) := dk_42 (dk_at dksX3_turn_6 0 rfl rfl)
theorem dX3_turn_141 : decode cX3_turn 141 = .ok (.iload_n 1, 1) := dk_27 (dk_at dksX3_turn_6 1 rfl rfl)
theorem dX3_turn_142 : decode cX3_turn 142 = .ok (.iload 4, 2) := dk_21 4 (dk_at dksX3_turn_6 2 rfl rfl)
theorem dX3_turn_144 : decode cX3_turn 144 = .ok (.invokevirtual 160, 3) := dk_182 0 160 (dk_at dksX3_turn_6 4 rfl rfl)
theorem dX3_turn_147 : decode cX3_turn 147 = .ok (.istore_n 3, 1) := dk_62 (dk_at dksX3_turn_6 7 rfl rfl)
theorem dX3_turn_148 : decode cX3_turn 148 = .ok (.goto (-111), 3) := dk_167 255 145 (dk_at dksX3_turn_6 8 rfl rfl)
theorem dX3_turn_151 : decode cX3_turn 151 = .ok (.return_, 1) := dk_177 (dk_at dksX3_turn_6 11 rfl rfl)
abbrev cX3_does : ByteArray := prog_21_method_35_code
def yX3_does : MethodName := ⟨RX3, "does", "(II)Z"⟩
def dkwX3_does_11 : List UInt8 := [42, 180, 0, 44, 27, 92, 46, 4, 96, 79, 42, 21, 4, 28, 4, 96, 182, 0, 126, 4, 172]
abbrev dktX3_does_11 : List UInt8 := dkwX3_does_11 ++ []
def dkwX3_does_10 : List UInt8 := [21, 4, 79, 4, 172, 42, 21, 4, 182, 0, 107, 153, 0, 32, 42, 180, 0, 44, 27, 46, 7, 162, 0, 22]
abbrev dktX3_does_10 : List UInt8 := dkwX3_does_10 ++ dktX3_does_11
def dkwX3_does_9 : List UInt8 := [154, 0, 7, 3, 167, 0, 11, 42, 180, 0, 50, 27, 46, 4, 100, 79, 4, 172, 42, 180, 0, 50, 27]
abbrev dktX3_does_9 : List UInt8 := dkwX3_does_9 ++ dktX3_does_10
def dkwX3_does_8 : List UInt8 := [21, 4, 167, 0, 9, 42, 180, 0, 31, 28, 46, 79, 42, 180, 0, 50, 27, 42, 180, 0, 50, 27, 46]
abbrev dktX3_does_8 : List UInt8 := dkwX3_does_8 ++ dktX3_does_9
def dkwX3_does_7 : List UInt8 := [46, 167, 0, 5, 21, 4, 79, 4, 172, 42, 180, 0, 31, 28, 42, 180, 0, 50, 27, 46, 154, 0, 8]
abbrev dktX3_does_7 : List UInt8 := dkwX3_does_7 ++ dktX3_does_8
def dkwX3_does_6 : List UInt8 := [172, 42, 180, 0, 31, 28, 42, 42, 180, 0, 47, 27, 46, 182, 0, 170, 158, 0, 12, 42, 180, 0, 31, 28]
abbrev dktX3_does_6 : List UInt8 := dkwX3_does_6 ++ dktX3_does_7
def dkwX3_does_5 : List UInt8 := [21, 4, 46, 27, 160, 0, 9, 42, 21, 4, 182, 0, 146, 4, 172, 42, 180, 0, 31, 28, 21, 4, 79, 4]
abbrev dktX3_does_5 : List UInt8 := dkwX3_does_5 ++ dktX3_does_6
def dkwX3_does_4 : List UInt8 := [180, 0, 53, 27, 21, 4, 4, 100, 79, 3, 172, 42, 27, 21, 4, 182, 0, 167, 172, 42, 180, 0, 71]
abbrev dktX3_does_4 : List UInt8 := dkwX3_does_4 ++ dktX3_does_5
def dkwX3_does_3 : List UInt8 := [42, 42, 180, 0, 47, 27, 46, 21, 4, 182, 0, 164, 154, 0, 7, 4, 167, 0, 4, 3, 172, 42]
abbrev dktX3_does_3 : List UInt8 := dkwX3_does_3 ++ dktX3_does_4
def dkwX3_does_2 : List UInt8 := [170, 0, 0, 0, 0, 0, 1, 11, 0, 0, 0, 99, 0, 0, 0, 119, 0, 0, 1, 1, 0, 0, 0, 133, 0, 0, 1, 11, 0, 0, 0, 141, 0, 0, 0, 160, 0, 0, 1, 11, 0, 0, 1, 11, 0, 0, 1, 11, 0, 0, 1, 11, 0, 0, 0, 202, 0, 0, 1, 11, 0, 0, 1, 11, 0, 0, 1, 11, 0, 0, 1, 11, 0, 0, 1, 11, 0, 0, 1, 11, 0, 0, 0, 100, 0, 0, 1, 11, 0, 0, 1, 11, 0, 0, 0, 170, 0, 0, 0, 121]
abbrev dktX3_does_2 : List UInt8 := dkwX3_does_2 ++ dktX3_does_3
def dkwX3_does_1 : List UInt8 := [28, 92, 46, 4, 96, 79, 42, 180, 0, 22, 29, 46]
abbrev dktX3_does_1 : List UInt8 := dkwX3_does_1 ++ dktX3_does_2
def dkwX3_does_0 : List UInt8 := [16, 20, 28, 104, 42, 180, 0, 31, 28, 46, 96, 62, 42, 180, 0, 25, 29, 46, 54, 4, 42, 180, 0, 31]
abbrev dktX3_does_0 : List UInt8 := dkwX3_does_0 ++ dktX3_does_1
theorem dksX3_does_0 : cX3_does.data.toList.drop 0 = dktX3_does_0 := by decide +kernel
theorem dksX3_does_1 : cX3_does.data.toList.drop 24 = dktX3_does_1 := dk_seg dksX3_does_0 24 rfl rfl
theorem dksX3_does_2 : cX3_does.data.toList.drop 36 = dktX3_does_2 := dk_seg dksX3_does_1 12 rfl rfl
theorem dksX3_does_3 : cX3_does.data.toList.drop 136 = dktX3_does_3 := dk_seg dksX3_does_2 100 rfl rfl
theorem dksX3_does_4 : cX3_does.data.toList.drop 158 = dktX3_does_4 := dk_seg dksX3_does_3 22 rfl rfl
theorem dksX3_does_5 : cX3_does.data.toList.drop 181 = dktX3_does_5 := dk_seg dksX3_does_4 23 rfl rfl
theorem dksX3_does_6 : cX3_does.data.toList.drop 205 = dktX3_does_6 := dk_seg dksX3_does_5 24 rfl rfl
theorem dksX3_does_7 : cX3_does.data.toList.drop 229 = dktX3_does_7 := dk_seg dksX3_does_6 24 rfl rfl
theorem dksX3_does_8 : cX3_does.data.toList.drop 252 = dktX3_does_8 := dk_seg dksX3_does_7 23 rfl rfl
theorem dksX3_does_9 : cX3_does.data.toList.drop 275 = dktX3_does_9 := dk_seg dksX3_does_8 23 rfl rfl
theorem dksX3_does_10 : cX3_does.data.toList.drop 298 = dktX3_does_10 := dk_seg dksX3_does_9 23 rfl rfl
theorem dksX3_does_11 : cX3_does.data.toList.drop 322 = dktX3_does_11 := dk_seg dksX3_does_10 24 rfl rfl
theorem dX3_does_0 : decode cX3_does 0 = .ok (.bipush 20, 2) := dk_16 20 (dk_at dksX3_does_0 0 rfl rfl)
theorem dX3_does_2 : decode cX3_does 2 = .ok (.iload_n 2, 1) := dk_28 (dk_at dksX3_does_0 2 rfl rfl)
theorem dX3_does_3 : decode cX3_does 3 = .ok (.imul, 1) := dk_104 (dk_at dksX3_does_0 3 rfl rfl)
theorem dX3_does_4 : decode cX3_does 4 = .ok (.aload_n 0, 1) := dk_42 (dk_at dksX3_does_0 4 rfl rfl)
theorem dX3_does_5 : decode cX3_does 5 = .ok (.getfield 31, 3) := dk_180 0 31 (dk_at dksX3_does_0 5 rfl rfl)
theorem dX3_does_8 : decode cX3_does 8 = .ok (.iload_n 2, 1) := dk_28 (dk_at dksX3_does_0 8 rfl rfl)
theorem dX3_does_9 : decode cX3_does 9 = .ok (.iaload, 1) := dk_46 (dk_at dksX3_does_0 9 rfl rfl)
theorem dX3_does_10 : decode cX3_does 10 = .ok (.iadd, 1) := dk_96 (dk_at dksX3_does_0 10 rfl rfl)
theorem dX3_does_11 : decode cX3_does 11 = .ok (.istore_n 3, 1) := dk_62 (dk_at dksX3_does_0 11 rfl rfl)
theorem dX3_does_12 : decode cX3_does 12 = .ok (.aload_n 0, 1) := dk_42 (dk_at dksX3_does_0 12 rfl rfl)
theorem dX3_does_13 : decode cX3_does 13 = .ok (.getfield 25, 3) := dk_180 0 25 (dk_at dksX3_does_0 13 rfl rfl)
theorem dX3_does_16 : decode cX3_does 16 = .ok (.iload_n 3, 1) := dk_29 (dk_at dksX3_does_0 16 rfl rfl)
theorem dX3_does_17 : decode cX3_does 17 = .ok (.iaload, 1) := dk_46 (dk_at dksX3_does_0 17 rfl rfl)
theorem dX3_does_18 : decode cX3_does 18 = .ok (.istore 4, 2) := dk_54 4 (dk_at dksX3_does_0 18 rfl rfl)
theorem dX3_does_20 : decode cX3_does 20 = .ok (.aload_n 0, 1) := dk_42 (dk_at dksX3_does_0 20 rfl rfl)
theorem dX3_does_21 : decode cX3_does 21 = .ok (.getfield 31, 3) := dk_180 0 31 (dk_at dksX3_does_0 21 rfl rfl)
theorem dX3_does_24 : decode cX3_does 24 = .ok (.iload_n 2, 1) := dk_28 (dk_at dksX3_does_1 0 rfl rfl)
theorem dX3_does_25 : decode cX3_does 25 = .ok (.dup2, 1) := dk_92 (dk_at dksX3_does_1 1 rfl rfl)
theorem dX3_does_26 : decode cX3_does 26 = .ok (.iaload, 1) := dk_46 (dk_at dksX3_does_1 2 rfl rfl)
theorem dX3_does_27 : decode cX3_does 27 = .ok (.iconst 1, 1) := dk_4 (dk_at dksX3_does_1 3 rfl rfl)
theorem dX3_does_28 : decode cX3_does 28 = .ok (.iadd, 1) := dk_96 (dk_at dksX3_does_1 4 rfl rfl)
theorem dX3_does_29 : decode cX3_does 29 = .ok (.iastore, 1) := dk_79 (dk_at dksX3_does_1 5 rfl rfl)
theorem dX3_does_30 : decode cX3_does 30 = .ok (.aload_n 0, 1) := dk_42 (dk_at dksX3_does_1 6 rfl rfl)
theorem dX3_does_31 : decode cX3_does 31 = .ok (.getfield 22, 3) := dk_180 0 22 (dk_at dksX3_does_1 7 rfl rfl)
theorem dX3_does_34 : decode cX3_does 34 = .ok (.iload_n 3, 1) := dk_29 (dk_at dksX3_does_1 10 rfl rfl)
theorem dX3_does_35 : decode cX3_does 35 = .ok (.iaload, 1) := dk_46 (dk_at dksX3_does_1 11 rfl rfl)
theorem dX3_does_36 : decode cX3_does 36 = .ok (.tableswitch 267 99 119 #[257, 133, 267, 141, 160, 267, 267, 267, 267, 202, 267, 267, 267, 267, 267, 267, 100, 267, 267, 170, 121], 100) := by decide +kernel
theorem dX3_does_136 : decode cX3_does 136 = .ok (.aload_n 0, 1) := dk_42 (dk_at dksX3_does_3 0 rfl rfl)
theorem dX3_does_137 : decode cX3_does 137 = .ok (.aload_n 0, 1) := dk_42 (dk_at dksX3_does_3 1 rfl rfl)
theorem dX3_does_138 : decode cX3_does 138 = .ok (.getfield 47, 3) := dk_180 0 47 (dk_at dksX3_does_3 2 rfl rfl)
theorem dX3_does_141 : decode cX3_does 141 = .ok (.iload_n 1, 1) := dk_27 (dk_at dksX3_does_3 5 rfl rfl)
theorem dX3_does_142 : decode cX3_does 142 = .ok (.iaload, 1) := dk_46 (dk_at dksX3_does_3 6 rfl rfl)
theorem dX3_does_143 : decode cX3_does 143 = .ok (.iload 4, 2) := dk_21 4 (dk_at dksX3_does_3 7 rfl rfl)
theorem dX3_does_145 : decode cX3_does 145 = .ok (.invokevirtual 164, 3) := dk_182 0 164 (dk_at dksX3_does_3 9 rfl rfl)
theorem dX3_does_148 : decode cX3_does 148 = .ok (.ifCond .ne 7, 3) := dk_154 0 7 (dk_at dksX3_does_3 12 rfl rfl)
theorem dX3_does_151 : decode cX3_does 151 = .ok (.iconst 1, 1) := dk_4 (dk_at dksX3_does_3 15 rfl rfl)
theorem dX3_does_152 : decode cX3_does 152 = .ok (.goto 4, 3) := dk_167 0 4 (dk_at dksX3_does_3 16 rfl rfl)
theorem dX3_does_155 : decode cX3_does 155 = .ok (.iconst 0, 1) := dk_3 (dk_at dksX3_does_3 19 rfl rfl)
theorem dX3_does_156 : decode cX3_does 156 = .ok (.ireturn, 1) := dk_172 (dk_at dksX3_does_3 20 rfl rfl)
theorem dX3_does_157 : decode cX3_does 157 = .ok (.aload_n 0, 1) := dk_42 (dk_at dksX3_does_3 21 rfl rfl)
theorem dX3_does_158 : decode cX3_does 158 = .ok (.getfield 53, 3) := dk_180 0 53 (dk_at dksX3_does_4 0 rfl rfl)
theorem dX3_does_161 : decode cX3_does 161 = .ok (.iload_n 1, 1) := dk_27 (dk_at dksX3_does_4 3 rfl rfl)
theorem dX3_does_162 : decode cX3_does 162 = .ok (.iload 4, 2) := dk_21 4 (dk_at dksX3_does_4 4 rfl rfl)
theorem dX3_does_164 : decode cX3_does 164 = .ok (.iconst 1, 1) := dk_4 (dk_at dksX3_does_4 6 rfl rfl)
theorem dX3_does_165 : decode cX3_does 165 = .ok (.isub, 1) := dk_100 (dk_at dksX3_does_4 7 rfl rfl)
theorem dX3_does_166 : decode cX3_does 166 = .ok (.iastore, 1) := dk_79 (dk_at dksX3_does_4 8 rfl rfl)
theorem dX3_does_167 : decode cX3_does 167 = .ok (.iconst 0, 1) := dk_3 (dk_at dksX3_does_4 9 rfl rfl)
theorem dX3_does_168 : decode cX3_does 168 = .ok (.ireturn, 1) := dk_172 (dk_at dksX3_does_4 10 rfl rfl)
theorem dX3_does_169 : decode cX3_does 169 = .ok (.aload_n 0, 1) := dk_42 (dk_at dksX3_does_4 11 rfl rfl)
theorem dX3_does_170 : decode cX3_does 170 = .ok (.iload_n 1, 1) := dk_27 (dk_at dksX3_does_4 12 rfl rfl)
theorem dX3_does_171 : decode cX3_does 171 = .ok (.iload 4, 2) := dk_21 4 (dk_at dksX3_does_4 13 rfl rfl)
theorem dX3_does_173 : decode cX3_does 173 = .ok (.invokevirtual 167, 3) := dk_182 0 167 (dk_at dksX3_does_4 15 rfl rfl)
theorem dX3_does_176 : decode cX3_does 176 = .ok (.ireturn, 1) := dk_172 (dk_at dksX3_does_4 18 rfl rfl)
theorem dX3_does_177 : decode cX3_does 177 = .ok (.aload_n 0, 1) := dk_42 (dk_at dksX3_does_4 19 rfl rfl)
theorem dX3_does_178 : decode cX3_does 178 = .ok (.getfield 71, 3) := dk_180 0 71 (dk_at dksX3_does_4 20 rfl rfl)
theorem dX3_does_181 : decode cX3_does 181 = .ok (.iload 4, 2) := dk_21 4 (dk_at dksX3_does_5 0 rfl rfl)
theorem dX3_does_183 : decode cX3_does 183 = .ok (.iaload, 1) := dk_46 (dk_at dksX3_does_5 2 rfl rfl)
theorem dX3_does_184 : decode cX3_does 184 = .ok (.iload_n 1, 1) := dk_27 (dk_at dksX3_does_5 3 rfl rfl)
theorem dX3_does_185 : decode cX3_does 185 = .ok (.if_icmp .ne 9, 3) := dk_160 0 9 (dk_at dksX3_does_5 4 rfl rfl)
theorem dX3_does_188 : decode cX3_does 188 = .ok (.aload_n 0, 1) := dk_42 (dk_at dksX3_does_5 7 rfl rfl)
theorem dX3_does_189 : decode cX3_does 189 = .ok (.iload 4, 2) := dk_21 4 (dk_at dksX3_does_5 8 rfl rfl)
theorem dX3_does_191 : decode cX3_does 191 = .ok (.invokevirtual 146, 3) := dk_182 0 146 (dk_at dksX3_does_5 10 rfl rfl)
theorem dX3_does_194 : decode cX3_does 194 = .ok (.iconst 1, 1) := dk_4 (dk_at dksX3_does_5 13 rfl rfl)
theorem dX3_does_195 : decode cX3_does 195 = .ok (.ireturn, 1) := dk_172 (dk_at dksX3_does_5 14 rfl rfl)
theorem dX3_does_196 : decode cX3_does 196 = .ok (.aload_n 0, 1) := dk_42 (dk_at dksX3_does_5 15 rfl rfl)
theorem dX3_does_197 : decode cX3_does 197 = .ok (.getfield 31, 3) := dk_180 0 31 (dk_at dksX3_does_5 16 rfl rfl)
theorem dX3_does_200 : decode cX3_does 200 = .ok (.iload_n 2, 1) := dk_28 (dk_at dksX3_does_5 19 rfl rfl)
theorem dX3_does_201 : decode cX3_does 201 = .ok (.iload 4, 2) := dk_21 4 (dk_at dksX3_does_5 20 rfl rfl)
theorem dX3_does_203 : decode cX3_does 203 = .ok (.iastore, 1) := dk_79 (dk_at dksX3_does_5 22 rfl rfl)
theorem dX3_does_204 : decode cX3_does 204 = .ok (.iconst 1, 1) := dk_4 (dk_at dksX3_does_5 23 rfl rfl)
theorem dX3_does_205 : decode cX3_does 205 = .ok (.ireturn, 1) := dk_172 (dk_at dksX3_does_6 0 rfl rfl)
theorem dX3_does_206 : decode cX3_does 206 = .ok (.aload_n 0, 1) := dk_42 (dk_at dksX3_does_6 1 rfl rfl)
theorem dX3_does_207 : decode cX3_does 207 = .ok (.getfield 31, 3) := dk_180 0 31 (dk_at dksX3_does_6 2 rfl rfl)
theorem dX3_does_210 : decode cX3_does 210 = .ok (.iload_n 2, 1) := dk_28 (dk_at dksX3_does_6 5 rfl rfl)
theorem dX3_does_211 : decode cX3_does 211 = .ok (.aload_n 0, 1) := dk_42 (dk_at dksX3_does_6 6 rfl rfl)
theorem dX3_does_212 : decode cX3_does 212 = .ok (.aload_n 0, 1) := dk_42 (dk_at dksX3_does_6 7 rfl rfl)
theorem dX3_does_213 : decode cX3_does 213 = .ok (.getfield 47, 3) := dk_180 0 47 (dk_at dksX3_does_6 8 rfl rfl)
theorem dX3_does_216 : decode cX3_does 216 = .ok (.iload_n 1, 1) := dk_27 (dk_at dksX3_does_6 11 rfl rfl)
theorem dX3_does_217 : decode cX3_does 217 = .ok (.iaload, 1) := dk_46 (dk_at dksX3_does_6 12 rfl rfl)
theorem dX3_does_218 : decode cX3_does 218 = .ok (.invokevirtual 170, 3) := dk_182 0 170 (dk_at dksX3_does_6 13 rfl rfl)
theorem dX3_does_221 : decode cX3_does 221 = .ok (.ifCond .le 12, 3) := dk_158 0 12 (dk_at dksX3_does_6 16 rfl rfl)
theorem dX3_does_224 : decode cX3_does 224 = .ok (.aload_n 0, 1) := dk_42 (dk_at dksX3_does_6 19 rfl rfl)
theorem dX3_does_225 : decode cX3_does 225 = .ok (.getfield 31, 3) := dk_180 0 31 (dk_at dksX3_does_6 20 rfl rfl)
theorem dX3_does_228 : decode cX3_does 228 = .ok (.iload_n 2, 1) := dk_28 (dk_at dksX3_does_6 23 rfl rfl)
theorem dX3_does_229 : decode cX3_does 229 = .ok (.iaload, 1) := dk_46 (dk_at dksX3_does_7 0 rfl rfl)
theorem dX3_does_230 : decode cX3_does 230 = .ok (.goto 5, 3) := dk_167 0 5 (dk_at dksX3_does_7 1 rfl rfl)
theorem dX3_does_233 : decode cX3_does 233 = .ok (.iload 4, 2) := dk_21 4 (dk_at dksX3_does_7 4 rfl rfl)
theorem dX3_does_235 : decode cX3_does 235 = .ok (.iastore, 1) := dk_79 (dk_at dksX3_does_7 6 rfl rfl)
theorem dX3_does_236 : decode cX3_does 236 = .ok (.iconst 1, 1) := dk_4 (dk_at dksX3_does_7 7 rfl rfl)
theorem dX3_does_237 : decode cX3_does 237 = .ok (.ireturn, 1) := dk_172 (dk_at dksX3_does_7 8 rfl rfl)
theorem dX3_does_238 : decode cX3_does 238 = .ok (.aload_n 0, 1) := dk_42 (dk_at dksX3_does_7 9 rfl rfl)
theorem dX3_does_239 : decode cX3_does 239 = .ok (.getfield 31, 3) := dk_180 0 31 (dk_at dksX3_does_7 10 rfl rfl)
theorem dX3_does_242 : decode cX3_does 242 = .ok (.iload_n 2, 1) := dk_28 (dk_at dksX3_does_7 13 rfl rfl)
theorem dX3_does_243 : decode cX3_does 243 = .ok (.aload_n 0, 1) := dk_42 (dk_at dksX3_does_7 14 rfl rfl)
theorem dX3_does_244 : decode cX3_does 244 = .ok (.getfield 50, 3) := dk_180 0 50 (dk_at dksX3_does_7 15 rfl rfl)
theorem dX3_does_247 : decode cX3_does 247 = .ok (.iload_n 1, 1) := dk_27 (dk_at dksX3_does_7 18 rfl rfl)
theorem dX3_does_248 : decode cX3_does 248 = .ok (.iaload, 1) := dk_46 (dk_at dksX3_does_7 19 rfl rfl)
theorem dX3_does_249 : decode cX3_does 249 = .ok (.ifCond .ne 8, 3) := dk_154 0 8 (dk_at dksX3_does_7 20 rfl rfl)
theorem dX3_does_252 : decode cX3_does 252 = .ok (.iload 4, 2) := dk_21 4 (dk_at dksX3_does_8 0 rfl rfl)
theorem dX3_does_254 : decode cX3_does 254 = .ok (.goto 9, 3) := dk_167 0 9 (dk_at dksX3_does_8 2 rfl rfl)
theorem dX3_does_257 : decode cX3_does 257 = .ok (.aload_n 0, 1) := dk_42 (dk_at dksX3_does_8 5 rfl rfl)
theorem dX3_does_258 : decode cX3_does 258 = .ok (.getfield 31, 3) := dk_180 0 31 (dk_at dksX3_does_8 6 rfl rfl)
theorem dX3_does_261 : decode cX3_does 261 = .ok (.iload_n 2, 1) := dk_28 (dk_at dksX3_does_8 9 rfl rfl)
theorem dX3_does_262 : decode cX3_does 262 = .ok (.iaload, 1) := dk_46 (dk_at dksX3_does_8 10 rfl rfl)
theorem dX3_does_263 : decode cX3_does 263 = .ok (.iastore, 1) := dk_79 (dk_at dksX3_does_8 11 rfl rfl)
theorem dX3_does_264 : decode cX3_does 264 = .ok (.aload_n 0, 1) := dk_42 (dk_at dksX3_does_8 12 rfl rfl)
theorem dX3_does_265 : decode cX3_does 265 = .ok (.getfield 50, 3) := dk_180 0 50 (dk_at dksX3_does_8 13 rfl rfl)
theorem dX3_does_268 : decode cX3_does 268 = .ok (.iload_n 1, 1) := dk_27 (dk_at dksX3_does_8 16 rfl rfl)
theorem dX3_does_269 : decode cX3_does 269 = .ok (.aload_n 0, 1) := dk_42 (dk_at dksX3_does_8 17 rfl rfl)
theorem dX3_does_270 : decode cX3_does 270 = .ok (.getfield 50, 3) := dk_180 0 50 (dk_at dksX3_does_8 18 rfl rfl)
theorem dX3_does_273 : decode cX3_does 273 = .ok (.iload_n 1, 1) := dk_27 (dk_at dksX3_does_8 21 rfl rfl)
theorem dX3_does_274 : decode cX3_does 274 = .ok (.iaload, 1) := dk_46 (dk_at dksX3_does_8 22 rfl rfl)
theorem dX3_does_275 : decode cX3_does 275 = .ok (.ifCond .ne 7, 3) := dk_154 0 7 (dk_at dksX3_does_9 0 rfl rfl)
theorem dX3_does_278 : decode cX3_does 278 = .ok (.iconst 0, 1) := dk_3 (dk_at dksX3_does_9 3 rfl rfl)
theorem dX3_does_279 : decode cX3_does 279 = .ok (.goto 11, 3) := dk_167 0 11 (dk_at dksX3_does_9 4 rfl rfl)
theorem dX3_does_282 : decode cX3_does 282 = .ok (.aload_n 0, 1) := dk_42 (dk_at dksX3_does_9 7 rfl rfl)
theorem dX3_does_283 : decode cX3_does 283 = .ok (.getfield 50, 3) := dk_180 0 50 (dk_at dksX3_does_9 8 rfl rfl)
theorem dX3_does_286 : decode cX3_does 286 = .ok (.iload_n 1, 1) := dk_27 (dk_at dksX3_does_9 11 rfl rfl)
theorem dX3_does_287 : decode cX3_does 287 = .ok (.iaload, 1) := dk_46 (dk_at dksX3_does_9 12 rfl rfl)
theorem dX3_does_288 : decode cX3_does 288 = .ok (.iconst 1, 1) := dk_4 (dk_at dksX3_does_9 13 rfl rfl)
theorem dX3_does_289 : decode cX3_does 289 = .ok (.isub, 1) := dk_100 (dk_at dksX3_does_9 14 rfl rfl)
theorem dX3_does_290 : decode cX3_does 290 = .ok (.iastore, 1) := dk_79 (dk_at dksX3_does_9 15 rfl rfl)
theorem dX3_does_291 : decode cX3_does 291 = .ok (.iconst 1, 1) := dk_4 (dk_at dksX3_does_9 16 rfl rfl)
theorem dX3_does_292 : decode cX3_does 292 = .ok (.ireturn, 1) := dk_172 (dk_at dksX3_does_9 17 rfl rfl)
theorem dX3_does_293 : decode cX3_does 293 = .ok (.aload_n 0, 1) := dk_42 (dk_at dksX3_does_9 18 rfl rfl)
theorem dX3_does_294 : decode cX3_does 294 = .ok (.getfield 50, 3) := dk_180 0 50 (dk_at dksX3_does_9 19 rfl rfl)
theorem dX3_does_297 : decode cX3_does 297 = .ok (.iload_n 1, 1) := dk_27 (dk_at dksX3_does_9 22 rfl rfl)
theorem dX3_does_298 : decode cX3_does 298 = .ok (.iload 4, 2) := dk_21 4 (dk_at dksX3_does_10 0 rfl rfl)
theorem dX3_does_300 : decode cX3_does 300 = .ok (.iastore, 1) := dk_79 (dk_at dksX3_does_10 2 rfl rfl)
theorem dX3_does_301 : decode cX3_does 301 = .ok (.iconst 1, 1) := dk_4 (dk_at dksX3_does_10 3 rfl rfl)
theorem dX3_does_302 : decode cX3_does 302 = .ok (.ireturn, 1) := dk_172 (dk_at dksX3_does_10 4 rfl rfl)
theorem dX3_does_303 : decode cX3_does 303 = .ok (.aload_n 0, 1) := dk_42 (dk_at dksX3_does_10 5 rfl rfl)
theorem dX3_does_304 : decode cX3_does 304 = .ok (.iload 4, 2) := dk_21 4 (dk_at dksX3_does_10 6 rfl rfl)
theorem dX3_does_306 : decode cX3_does 306 = .ok (.invokevirtual 107, 3) := dk_182 0 107 (dk_at dksX3_does_10 8 rfl rfl)
theorem dX3_does_309 : decode cX3_does 309 = .ok (.ifCond .eq 32, 3) := dk_153 0 32 (dk_at dksX3_does_10 11 rfl rfl)
theorem dX3_does_312 : decode cX3_does 312 = .ok (.aload_n 0, 1) := dk_42 (dk_at dksX3_does_10 14 rfl rfl)
theorem dX3_does_313 : decode cX3_does 313 = .ok (.getfield 44, 3) := dk_180 0 44 (dk_at dksX3_does_10 15 rfl rfl)
theorem dX3_does_316 : decode cX3_does 316 = .ok (.iload_n 1, 1) := dk_27 (dk_at dksX3_does_10 18 rfl rfl)
theorem dX3_does_317 : decode cX3_does 317 = .ok (.iaload, 1) := dk_46 (dk_at dksX3_does_10 19 rfl rfl)
theorem dX3_does_318 : decode cX3_does 318 = .ok (.iconst 4, 1) := dk_7 (dk_at dksX3_does_10 20 rfl rfl)
theorem dX3_does_319 : decode cX3_does 319 = .ok (.if_icmp .ge 22, 3) := dk_162 0 22 (dk_at dksX3_does_10 21 rfl rfl)
theorem dX3_does_322 : decode cX3_does 322 = .ok (.aload_n 0, 1) := dk_42 (dk_at dksX3_does_11 0 rfl rfl)
theorem dX3_does_323 : decode cX3_does 323 = .ok (.getfield 44, 3) := dk_180 0 44 (dk_at dksX3_does_11 1 rfl rfl)
theorem dX3_does_326 : decode cX3_does 326 = .ok (.iload_n 1, 1) := dk_27 (dk_at dksX3_does_11 4 rfl rfl)
theorem dX3_does_327 : decode cX3_does 327 = .ok (.dup2, 1) := dk_92 (dk_at dksX3_does_11 5 rfl rfl)
theorem dX3_does_328 : decode cX3_does 328 = .ok (.iaload, 1) := dk_46 (dk_at dksX3_does_11 6 rfl rfl)
theorem dX3_does_329 : decode cX3_does 329 = .ok (.iconst 1, 1) := dk_4 (dk_at dksX3_does_11 7 rfl rfl)
theorem dX3_does_330 : decode cX3_does 330 = .ok (.iadd, 1) := dk_96 (dk_at dksX3_does_11 8 rfl rfl)
theorem dX3_does_331 : decode cX3_does 331 = .ok (.iastore, 1) := dk_79 (dk_at dksX3_does_11 9 rfl rfl)
theorem dX3_does_332 : decode cX3_does 332 = .ok (.aload_n 0, 1) := dk_42 (dk_at dksX3_does_11 10 rfl rfl)
theorem dX3_does_333 : decode cX3_does 333 = .ok (.iload 4, 2) := dk_21 4 (dk_at dksX3_does_11 11 rfl rfl)
theorem dX3_does_335 : decode cX3_does 335 = .ok (.iload_n 2, 1) := dk_28 (dk_at dksX3_does_11 13 rfl rfl)
theorem dX3_does_336 : decode cX3_does 336 = .ok (.iconst 1, 1) := dk_4 (dk_at dksX3_does_11 14 rfl rfl)
theorem dX3_does_337 : decode cX3_does 337 = .ok (.iadd, 1) := dk_96 (dk_at dksX3_does_11 15 rfl rfl)
theorem dX3_does_338 : decode cX3_does 338 = .ok (.invokevirtual 126, 3) := dk_182 0 126 (dk_at dksX3_does_11 16 rfl rfl)
theorem dX3_does_341 : decode cX3_does 341 = .ok (.iconst 1, 1) := dk_4 (dk_at dksX3_does_11 19 rfl rfl)
theorem dX3_does_342 : decode cX3_does 342 = .ok (.ireturn, 1) := dk_172 (dk_at dksX3_does_11 20 rfl rfl)
abbrev cX3_shows : ByteArray := prog_21_method_38_code
def yX3_shows : MethodName := ⟨RX3, "shows", "(II)Z"⟩
def dkwX3_shows_5 : List UInt8 := [16, 100, 21, 4, 104, 28, 96, 3, 84, 132, 4, 1, 167, 255, 204, 4, 172]
abbrev dktX3_shows_5 : List UInt8 := dkwX3_shows_5 ++ []
def dkwX3_shows_4 : List UInt8 := [153, 0, 32, 42, 180, 0, 80, 16, 100, 21, 4, 104, 28, 96, 92, 46, 4, 96, 79, 42, 180, 0, 86]
abbrev dktX3_shows_4 : List UInt8 := dkwX3_shows_4 ++ dktX3_shows_5
def dkwX3_shows_3 : List UInt8 := [181, 0, 179, 3, 54, 4, 21, 4, 42, 180, 0, 173, 162, 0, 49, 42, 21, 4, 27, 28, 182, 0, 176]
abbrev dktX3_shows_3 : List UInt8 := dkwX3_shows_3 ++ dktX3_shows_4
def dkwX3_shows_2 : List UInt8 := [182, 0, 170, 158, 0, 5, 3, 172, 42, 180, 0, 62, 27, 28, 79, 42, 89, 180, 0, 179, 4, 96]
abbrev dktX3_shows_2 : List UInt8 := dkwX3_shows_2 ++ dktX3_shows_3
def dkwX3_shows_1 : List UInt8 := [153, 0, 7, 4, 167, 0, 4, 3, 96, 62, 132, 4, 1, 167, 255, 225, 29, 154, 0, 13, 42, 27]
abbrev dktX3_shows_1 : List UInt8 := dkwX3_shows_1 ++ dktX3_shows_2
def dkwX3_shows_0 : List UInt8 := [3, 62, 3, 54, 4, 21, 4, 42, 180, 0, 173, 162, 0, 28, 29, 42, 21, 4, 27, 28, 182, 0, 176]
abbrev dktX3_shows_0 : List UInt8 := dkwX3_shows_0 ++ dktX3_shows_1
theorem dksX3_shows_0 : cX3_shows.data.toList.drop 0 = dktX3_shows_0 := by decide +kernel
theorem dksX3_shows_1 : cX3_shows.data.toList.drop 23 = dktX3_shows_1 := dk_seg dksX3_shows_0 23 rfl rfl
theorem dksX3_shows_2 : cX3_shows.data.toList.drop 45 = dktX3_shows_2 := dk_seg dksX3_shows_1 22 rfl rfl
theorem dksX3_shows_3 : cX3_shows.data.toList.drop 67 = dktX3_shows_3 := dk_seg dksX3_shows_2 22 rfl rfl
theorem dksX3_shows_4 : cX3_shows.data.toList.drop 90 = dktX3_shows_4 := dk_seg dksX3_shows_3 23 rfl rfl
theorem dksX3_shows_5 : cX3_shows.data.toList.drop 113 = dktX3_shows_5 := dk_seg dksX3_shows_4 23 rfl rfl
theorem dX3_shows_0 : decode cX3_shows 0 = .ok (.iconst 0, 1) := dk_3 (dk_at dksX3_shows_0 0 rfl rfl)
theorem dX3_shows_1 : decode cX3_shows 1 = .ok (.istore_n 3, 1) := dk_62 (dk_at dksX3_shows_0 1 rfl rfl)
theorem dX3_shows_2 : decode cX3_shows 2 = .ok (.iconst 0, 1) := dk_3 (dk_at dksX3_shows_0 2 rfl rfl)
theorem dX3_shows_3 : decode cX3_shows 3 = .ok (.istore 4, 2) := dk_54 4 (dk_at dksX3_shows_0 3 rfl rfl)
theorem dX3_shows_5 : decode cX3_shows 5 = .ok (.iload 4, 2) := dk_21 4 (dk_at dksX3_shows_0 5 rfl rfl)
theorem dX3_shows_7 : decode cX3_shows 7 = .ok (.aload_n 0, 1) := dk_42 (dk_at dksX3_shows_0 7 rfl rfl)
theorem dX3_shows_8 : decode cX3_shows 8 = .ok (.getfield 173, 3) := dk_180 0 173 (dk_at dksX3_shows_0 8 rfl rfl)
theorem dX3_shows_11 : decode cX3_shows 11 = .ok (.if_icmp .ge 28, 3) := dk_162 0 28 (dk_at dksX3_shows_0 11 rfl rfl)
theorem dX3_shows_14 : decode cX3_shows 14 = .ok (.iload_n 3, 1) := dk_29 (dk_at dksX3_shows_0 14 rfl rfl)
theorem dX3_shows_15 : decode cX3_shows 15 = .ok (.aload_n 0, 1) := dk_42 (dk_at dksX3_shows_0 15 rfl rfl)
theorem dX3_shows_16 : decode cX3_shows 16 = .ok (.iload 4, 2) := dk_21 4 (dk_at dksX3_shows_0 16 rfl rfl)
theorem dX3_shows_18 : decode cX3_shows 18 = .ok (.iload_n 1, 1) := dk_27 (dk_at dksX3_shows_0 18 rfl rfl)
theorem dX3_shows_19 : decode cX3_shows 19 = .ok (.iload_n 2, 1) := dk_28 (dk_at dksX3_shows_0 19 rfl rfl)
theorem dX3_shows_20 : decode cX3_shows 20 = .ok (.invokevirtual 176, 3) := dk_182 0 176 (dk_at dksX3_shows_0 20 rfl rfl)
theorem dX3_shows_23 : decode cX3_shows 23 = .ok (.ifCond .eq 7, 3) := dk_153 0 7 (dk_at dksX3_shows_1 0 rfl rfl)
theorem dX3_shows_26 : decode cX3_shows 26 = .ok (.iconst 1, 1) := dk_4 (dk_at dksX3_shows_1 3 rfl rfl)
theorem dX3_shows_27 : decode cX3_shows 27 = .ok (.goto 4, 3) := dk_167 0 4 (dk_at dksX3_shows_1 4 rfl rfl)
theorem dX3_shows_30 : decode cX3_shows 30 = .ok (.iconst 0, 1) := dk_3 (dk_at dksX3_shows_1 7 rfl rfl)
theorem dX3_shows_31 : decode cX3_shows 31 = .ok (.iadd, 1) := dk_96 (dk_at dksX3_shows_1 8 rfl rfl)
theorem dX3_shows_32 : decode cX3_shows 32 = .ok (.istore_n 3, 1) := dk_62 (dk_at dksX3_shows_1 9 rfl rfl)
theorem dX3_shows_33 : decode cX3_shows 33 = .ok (.iinc 4 1, 3) := dk_132 4 1 (dk_at dksX3_shows_1 10 rfl rfl)
theorem dX3_shows_36 : decode cX3_shows 36 = .ok (.goto (-31), 3) := dk_167 255 225 (dk_at dksX3_shows_1 13 rfl rfl)
theorem dX3_shows_39 : decode cX3_shows 39 = .ok (.iload_n 3, 1) := dk_29 (dk_at dksX3_shows_1 16 rfl rfl)
theorem dX3_shows_40 : decode cX3_shows 40 = .ok (.ifCond .ne 13, 3) := dk_154 0 13 (dk_at dksX3_shows_1 17 rfl rfl)
theorem dX3_shows_43 : decode cX3_shows 43 = .ok (.aload_n 0, 1) := dk_42 (dk_at dksX3_shows_1 20 rfl rfl)
theorem dX3_shows_44 : decode cX3_shows 44 = .ok (.iload_n 1, 1) := dk_27 (dk_at dksX3_shows_1 21 rfl rfl)
theorem dX3_shows_45 : decode cX3_shows 45 = .ok (.invokevirtual 170, 3) := dk_182 0 170 (dk_at dksX3_shows_2 0 rfl rfl)
theorem dX3_shows_48 : decode cX3_shows 48 = .ok (.ifCond .le 5, 3) := dk_158 0 5 (dk_at dksX3_shows_2 3 rfl rfl)
theorem dX3_shows_51 : decode cX3_shows 51 = .ok (.iconst 0, 1) := dk_3 (dk_at dksX3_shows_2 6 rfl rfl)
theorem dX3_shows_52 : decode cX3_shows 52 = .ok (.ireturn, 1) := dk_172 (dk_at dksX3_shows_2 7 rfl rfl)
theorem dX3_shows_53 : decode cX3_shows 53 = .ok (.aload_n 0, 1) := dk_42 (dk_at dksX3_shows_2 8 rfl rfl)
theorem dX3_shows_54 : decode cX3_shows 54 = .ok (.getfield 62, 3) := dk_180 0 62 (dk_at dksX3_shows_2 9 rfl rfl)
theorem dX3_shows_57 : decode cX3_shows 57 = .ok (.iload_n 1, 1) := dk_27 (dk_at dksX3_shows_2 12 rfl rfl)
theorem dX3_shows_58 : decode cX3_shows 58 = .ok (.iload_n 2, 1) := dk_28 (dk_at dksX3_shows_2 13 rfl rfl)
theorem dX3_shows_59 : decode cX3_shows 59 = .ok (.iastore, 1) := dk_79 (dk_at dksX3_shows_2 14 rfl rfl)
theorem dX3_shows_60 : decode cX3_shows 60 = .ok (.aload_n 0, 1) := dk_42 (dk_at dksX3_shows_2 15 rfl rfl)
theorem dX3_shows_61 : decode cX3_shows 61 = .ok (.dup, 1) := dk_89 (dk_at dksX3_shows_2 16 rfl rfl)
theorem dX3_shows_62 : decode cX3_shows 62 = .ok (.getfield 179, 3) := dk_180 0 179 (dk_at dksX3_shows_2 17 rfl rfl)
theorem dX3_shows_65 : decode cX3_shows 65 = .ok (.iconst 1, 1) := dk_4 (dk_at dksX3_shows_2 20 rfl rfl)
theorem dX3_shows_66 : decode cX3_shows 66 = .ok (.iadd, 1) := dk_96 (dk_at dksX3_shows_2 21 rfl rfl)
theorem dX3_shows_67 : decode cX3_shows 67 = .ok (.putfield 179, 3) := dk_181 0 179 (dk_at dksX3_shows_3 0 rfl rfl)
theorem dX3_shows_70 : decode cX3_shows 70 = .ok (.iconst 0, 1) := dk_3 (dk_at dksX3_shows_3 3 rfl rfl)
theorem dX3_shows_71 : decode cX3_shows 71 = .ok (.istore 4, 2) := dk_54 4 (dk_at dksX3_shows_3 4 rfl rfl)
theorem dX3_shows_73 : decode cX3_shows 73 = .ok (.iload 4, 2) := dk_21 4 (dk_at dksX3_shows_3 6 rfl rfl)
theorem dX3_shows_75 : decode cX3_shows 75 = .ok (.aload_n 0, 1) := dk_42 (dk_at dksX3_shows_3 8 rfl rfl)
theorem dX3_shows_76 : decode cX3_shows 76 = .ok (.getfield 173, 3) := dk_180 0 173 (dk_at dksX3_shows_3 9 rfl rfl)
theorem dX3_shows_79 : decode cX3_shows 79 = .ok (.if_icmp .ge 49, 3) := dk_162 0 49 (dk_at dksX3_shows_3 12 rfl rfl)
theorem dX3_shows_82 : decode cX3_shows 82 = .ok (.aload_n 0, 1) := dk_42 (dk_at dksX3_shows_3 15 rfl rfl)
theorem dX3_shows_83 : decode cX3_shows 83 = .ok (.iload 4, 2) := dk_21 4 (dk_at dksX3_shows_3 16 rfl rfl)
theorem dX3_shows_85 : decode cX3_shows 85 = .ok (.iload_n 1, 1) := dk_27 (dk_at dksX3_shows_3 18 rfl rfl)
theorem dX3_shows_86 : decode cX3_shows 86 = .ok (.iload_n 2, 1) := dk_28 (dk_at dksX3_shows_3 19 rfl rfl)
theorem dX3_shows_87 : decode cX3_shows 87 = .ok (.invokevirtual 176, 3) := dk_182 0 176 (dk_at dksX3_shows_3 20 rfl rfl)
theorem dX3_shows_90 : decode cX3_shows 90 = .ok (.ifCond .eq 32, 3) := dk_153 0 32 (dk_at dksX3_shows_4 0 rfl rfl)
theorem dX3_shows_93 : decode cX3_shows 93 = .ok (.aload_n 0, 1) := dk_42 (dk_at dksX3_shows_4 3 rfl rfl)
theorem dX3_shows_94 : decode cX3_shows 94 = .ok (.getfield 80, 3) := dk_180 0 80 (dk_at dksX3_shows_4 4 rfl rfl)
theorem dX3_shows_97 : decode cX3_shows 97 = .ok (.bipush 100, 2) := dk_16 100 (dk_at dksX3_shows_4 7 rfl rfl)
theorem dX3_shows_99 : decode cX3_shows 99 = .ok (.iload 4, 2) := dk_21 4 (dk_at dksX3_shows_4 9 rfl rfl)
theorem dX3_shows_101 : decode cX3_shows 101 = .ok (.imul, 1) := dk_104 (dk_at dksX3_shows_4 11 rfl rfl)
theorem dX3_shows_102 : decode cX3_shows 102 = .ok (.iload_n 2, 1) := dk_28 (dk_at dksX3_shows_4 12 rfl rfl)
theorem dX3_shows_103 : decode cX3_shows 103 = .ok (.iadd, 1) := dk_96 (dk_at dksX3_shows_4 13 rfl rfl)
theorem dX3_shows_104 : decode cX3_shows 104 = .ok (.dup2, 1) := dk_92 (dk_at dksX3_shows_4 14 rfl rfl)
theorem dX3_shows_105 : decode cX3_shows 105 = .ok (.iaload, 1) := dk_46 (dk_at dksX3_shows_4 15 rfl rfl)
theorem dX3_shows_106 : decode cX3_shows 106 = .ok (.iconst 1, 1) := dk_4 (dk_at dksX3_shows_4 16 rfl rfl)
theorem dX3_shows_107 : decode cX3_shows 107 = .ok (.iadd, 1) := dk_96 (dk_at dksX3_shows_4 17 rfl rfl)
theorem dX3_shows_108 : decode cX3_shows 108 = .ok (.iastore, 1) := dk_79 (dk_at dksX3_shows_4 18 rfl rfl)
theorem dX3_shows_109 : decode cX3_shows 109 = .ok (.aload_n 0, 1) := dk_42 (dk_at dksX3_shows_4 19 rfl rfl)
theorem dX3_shows_110 : decode cX3_shows 110 = .ok (.getfield 86, 3) := dk_180 0 86 (dk_at dksX3_shows_4 20 rfl rfl)
theorem dX3_shows_113 : decode cX3_shows 113 = .ok (.bipush 100, 2) := dk_16 100 (dk_at dksX3_shows_5 0 rfl rfl)
theorem dX3_shows_115 : decode cX3_shows 115 = .ok (.iload 4, 2) := dk_21 4 (dk_at dksX3_shows_5 2 rfl rfl)
theorem dX3_shows_117 : decode cX3_shows 117 = .ok (.imul, 1) := dk_104 (dk_at dksX3_shows_5 4 rfl rfl)
theorem dX3_shows_118 : decode cX3_shows 118 = .ok (.iload_n 2, 1) := dk_28 (dk_at dksX3_shows_5 5 rfl rfl)
theorem dX3_shows_119 : decode cX3_shows 119 = .ok (.iadd, 1) := dk_96 (dk_at dksX3_shows_5 6 rfl rfl)
theorem dX3_shows_120 : decode cX3_shows 120 = .ok (.iconst 0, 1) := dk_3 (dk_at dksX3_shows_5 7 rfl rfl)
theorem dX3_shows_121 : decode cX3_shows 121 = .ok (.bastore, 1) := dk_84 (dk_at dksX3_shows_5 8 rfl rfl)
theorem dX3_shows_122 : decode cX3_shows 122 = .ok (.iinc 4 1, 3) := dk_132 4 1 (dk_at dksX3_shows_5 9 rfl rfl)
theorem dX3_shows_125 : decode cX3_shows 125 = .ok (.goto (-52), 3) := dk_167 255 204 (dk_at dksX3_shows_5 12 rfl rfl)
theorem dX3_shows_128 : decode cX3_shows 128 = .ok (.iconst 1, 1) := dk_4 (dk_at dksX3_shows_5 15 rfl rfl)
theorem dX3_shows_129 : decode cX3_shows 129 = .ok (.ireturn, 1) := dk_172 (dk_at dksX3_shows_5 16 rfl rfl)
abbrev cX3_sees : ByteArray := prog_21_method_37_code
def yX3_sees : MethodName := ⟨RX3, "sees", "(III)Z"⟩
def dkwX3_sees_1 : List UInt8 := [46, 153, 0, 13, 42, 180, 0, 86, 21, 4, 51, 153, 0, 7, 4, 167, 0, 4, 3, 172]
abbrev dktX3_sees_1 : List UInt8 := dkwX3_sees_1 ++ []
def dkwX3_sees_0 : List UInt8 := [16, 100, 27, 104, 29, 96, 54, 4, 42, 180, 0, 83, 27, 46, 28, 160, 0, 27, 42, 180, 0, 80, 21, 4]
abbrev dktX3_sees_0 : List UInt8 := dkwX3_sees_0 ++ dktX3_sees_1
theorem dksX3_sees_0 : cX3_sees.data.toList.drop 0 = dktX3_sees_0 := by decide +kernel
theorem dksX3_sees_1 : cX3_sees.data.toList.drop 24 = dktX3_sees_1 := dk_seg dksX3_sees_0 24 rfl rfl
theorem dX3_sees_0 : decode cX3_sees 0 = .ok (.bipush 100, 2) := dk_16 100 (dk_at dksX3_sees_0 0 rfl rfl)
theorem dX3_sees_2 : decode cX3_sees 2 = .ok (.iload_n 1, 1) := dk_27 (dk_at dksX3_sees_0 2 rfl rfl)
theorem dX3_sees_3 : decode cX3_sees 3 = .ok (.imul, 1) := dk_104 (dk_at dksX3_sees_0 3 rfl rfl)
theorem dX3_sees_4 : decode cX3_sees 4 = .ok (.iload_n 3, 1) := dk_29 (dk_at dksX3_sees_0 4 rfl rfl)
theorem dX3_sees_5 : decode cX3_sees 5 = .ok (.iadd, 1) := dk_96 (dk_at dksX3_sees_0 5 rfl rfl)
theorem dX3_sees_6 : decode cX3_sees 6 = .ok (.istore 4, 2) := dk_54 4 (dk_at dksX3_sees_0 6 rfl rfl)
theorem dX3_sees_8 : decode cX3_sees 8 = .ok (.aload_n 0, 1) := dk_42 (dk_at dksX3_sees_0 8 rfl rfl)
theorem dX3_sees_9 : decode cX3_sees 9 = .ok (.getfield 83, 3) := dk_180 0 83 (dk_at dksX3_sees_0 9 rfl rfl)
theorem dX3_sees_12 : decode cX3_sees 12 = .ok (.iload_n 1, 1) := dk_27 (dk_at dksX3_sees_0 12 rfl rfl)
theorem dX3_sees_13 : decode cX3_sees 13 = .ok (.iaload, 1) := dk_46 (dk_at dksX3_sees_0 13 rfl rfl)
theorem dX3_sees_14 : decode cX3_sees 14 = .ok (.iload_n 2, 1) := dk_28 (dk_at dksX3_sees_0 14 rfl rfl)
theorem dX3_sees_15 : decode cX3_sees 15 = .ok (.if_icmp .ne 27, 3) := dk_160 0 27 (dk_at dksX3_sees_0 15 rfl rfl)
theorem dX3_sees_18 : decode cX3_sees 18 = .ok (.aload_n 0, 1) := dk_42 (dk_at dksX3_sees_0 18 rfl rfl)
theorem dX3_sees_19 : decode cX3_sees 19 = .ok (.getfield 80, 3) := dk_180 0 80 (dk_at dksX3_sees_0 19 rfl rfl)
theorem dX3_sees_22 : decode cX3_sees 22 = .ok (.iload 4, 2) := dk_21 4 (dk_at dksX3_sees_0 22 rfl rfl)
theorem dX3_sees_24 : decode cX3_sees 24 = .ok (.iaload, 1) := dk_46 (dk_at dksX3_sees_1 0 rfl rfl)
theorem dX3_sees_25 : decode cX3_sees 25 = .ok (.ifCond .eq 13, 3) := dk_153 0 13 (dk_at dksX3_sees_1 1 rfl rfl)
theorem dX3_sees_28 : decode cX3_sees 28 = .ok (.aload_n 0, 1) := dk_42 (dk_at dksX3_sees_1 4 rfl rfl)
theorem dX3_sees_29 : decode cX3_sees 29 = .ok (.getfield 86, 3) := dk_180 0 86 (dk_at dksX3_sees_1 5 rfl rfl)
theorem dX3_sees_32 : decode cX3_sees 32 = .ok (.iload 4, 2) := dk_21 4 (dk_at dksX3_sees_1 8 rfl rfl)
theorem dX3_sees_34 : decode cX3_sees 34 = .ok (.baload, 1) := dk_51 (dk_at dksX3_sees_1 10 rfl rfl)
theorem dX3_sees_35 : decode cX3_sees 35 = .ok (.ifCond .eq 7, 3) := dk_153 0 7 (dk_at dksX3_sees_1 11 rfl rfl)
theorem dX3_sees_38 : decode cX3_sees 38 = .ok (.iconst 1, 1) := dk_4 (dk_at dksX3_sees_1 14 rfl rfl)
theorem dX3_sees_39 : decode cX3_sees 39 = .ok (.goto 4, 3) := dk_167 0 4 (dk_at dksX3_sees_1 15 rfl rfl)
theorem dX3_sees_42 : decode cX3_sees 42 = .ok (.iconst 0, 1) := dk_3 (dk_at dksX3_sees_1 18 rfl rfl)
theorem dX3_sees_43 : decode cX3_sees 43 = .ok (.ireturn, 1) := dk_172 (dk_at dksX3_sees_1 19 rfl rfl)
abbrev cX3_present : ByteArray := prog_21_method_36_code
def yX3_present : MethodName := ⟨RX3, "present", "(I)I"⟩
def dkwX3_present_1 : List UInt8 := [167, 0, 4, 3, 96, 61, 132, 3, 1, 167, 255, 227, 28, 172]
abbrev dktX3_present_1 : List UInt8 := dkwX3_present_1 ++ []
def dkwX3_present_0 : List UInt8 := [3, 61, 3, 62, 29, 42, 180, 0, 173, 162, 0, 27, 28, 42, 180, 0, 83, 29, 46, 27, 160, 0, 7, 4]
abbrev dktX3_present_0 : List UInt8 := dkwX3_present_0 ++ dktX3_present_1
theorem dksX3_present_0 : cX3_present.data.toList.drop 0 = dktX3_present_0 := by decide +kernel
theorem dksX3_present_1 : cX3_present.data.toList.drop 24 = dktX3_present_1 := dk_seg dksX3_present_0 24 rfl rfl
theorem dX3_present_0 : decode cX3_present 0 = .ok (.iconst 0, 1) := dk_3 (dk_at dksX3_present_0 0 rfl rfl)
theorem dX3_present_1 : decode cX3_present 1 = .ok (.istore_n 2, 1) := dk_61 (dk_at dksX3_present_0 1 rfl rfl)
theorem dX3_present_2 : decode cX3_present 2 = .ok (.iconst 0, 1) := dk_3 (dk_at dksX3_present_0 2 rfl rfl)
theorem dX3_present_3 : decode cX3_present 3 = .ok (.istore_n 3, 1) := dk_62 (dk_at dksX3_present_0 3 rfl rfl)
theorem dX3_present_4 : decode cX3_present 4 = .ok (.iload_n 3, 1) := dk_29 (dk_at dksX3_present_0 4 rfl rfl)
theorem dX3_present_5 : decode cX3_present 5 = .ok (.aload_n 0, 1) := dk_42 (dk_at dksX3_present_0 5 rfl rfl)
theorem dX3_present_6 : decode cX3_present 6 = .ok (.getfield 173, 3) := dk_180 0 173 (dk_at dksX3_present_0 6 rfl rfl)
theorem dX3_present_9 : decode cX3_present 9 = .ok (.if_icmp .ge 27, 3) := dk_162 0 27 (dk_at dksX3_present_0 9 rfl rfl)
theorem dX3_present_12 : decode cX3_present 12 = .ok (.iload_n 2, 1) := dk_28 (dk_at dksX3_present_0 12 rfl rfl)
theorem dX3_present_13 : decode cX3_present 13 = .ok (.aload_n 0, 1) := dk_42 (dk_at dksX3_present_0 13 rfl rfl)
theorem dX3_present_14 : decode cX3_present 14 = .ok (.getfield 83, 3) := dk_180 0 83 (dk_at dksX3_present_0 14 rfl rfl)
theorem dX3_present_17 : decode cX3_present 17 = .ok (.iload_n 3, 1) := dk_29 (dk_at dksX3_present_0 17 rfl rfl)
theorem dX3_present_18 : decode cX3_present 18 = .ok (.iaload, 1) := dk_46 (dk_at dksX3_present_0 18 rfl rfl)
theorem dX3_present_19 : decode cX3_present 19 = .ok (.iload_n 1, 1) := dk_27 (dk_at dksX3_present_0 19 rfl rfl)
theorem dX3_present_20 : decode cX3_present 20 = .ok (.if_icmp .ne 7, 3) := dk_160 0 7 (dk_at dksX3_present_0 20 rfl rfl)
theorem dX3_present_23 : decode cX3_present 23 = .ok (.iconst 1, 1) := dk_4 (dk_at dksX3_present_0 23 rfl rfl)
theorem dX3_present_24 : decode cX3_present 24 = .ok (.goto 4, 3) := dk_167 0 4 (dk_at dksX3_present_1 0 rfl rfl)
theorem dX3_present_27 : decode cX3_present 27 = .ok (.iconst 0, 1) := dk_3 (dk_at dksX3_present_1 3 rfl rfl)
theorem dX3_present_28 : decode cX3_present 28 = .ok (.iadd, 1) := dk_96 (dk_at dksX3_present_1 4 rfl rfl)
theorem dX3_present_29 : decode cX3_present 29 = .ok (.istore_n 2, 1) := dk_61 (dk_at dksX3_present_1 5 rfl rfl)
theorem dX3_present_30 : decode cX3_present 30 = .ok (.iinc 3 1, 3) := dk_132 3 1 (dk_at dksX3_present_1 6 rfl rfl)
theorem dX3_present_33 : decode cX3_present 33 = .ok (.goto (-29), 3) := dk_167 255 227 (dk_at dksX3_present_1 9 rfl rfl)
theorem dX3_present_36 : decode cX3_present 36 = .ok (.iload_n 2, 1) := dk_28 (dk_at dksX3_present_1 12 rfl rfl)
theorem dX3_present_37 : decode cX3_present 37 = .ok (.ireturn, 1) := dk_172 (dk_at dksX3_present_1 13 rfl rfl)
abbrev cX3_takes : ByteArray := prog_21_method_39_code
def yX3_takes : MethodName := ⟨RX3, "takes", "(II)Z"⟩
def dkwX3_takes_3 : List UInt8 := [27, 28, 79, 3, 172]
abbrev dktX3_takes_3 : List UInt8 := dkwX3_takes_3 ++ []
def dkwX3_takes_2 : List UInt8 := [104, 42, 180, 0, 77, 28, 46, 96, 27, 79, 42, 180, 0, 77, 28, 92, 46, 4, 96, 79, 42, 180, 0, 56]
abbrev dktX3_takes_2 : List UInt8 := dkwX3_takes_2 ++ dktX3_takes_3
def dkwX3_takes_1 : List UInt8 := [180, 0, 71, 28, 46, 156, 0, 12, 42, 180, 0, 71, 28, 27, 79, 4, 172, 42, 180, 0, 74, 16, 6, 28]
abbrev dktX3_takes_1 : List UInt8 := dkwX3_takes_1 ++ dktX3_takes_2
def dkwX3_takes_0 : List UInt8 := [42, 180, 0, 71, 28, 46, 27, 159, 0, 12, 42, 27, 182, 0, 143, 6, 160, 0, 5, 4, 172, 42]
abbrev dktX3_takes_0 : List UInt8 := dkwX3_takes_0 ++ dktX3_takes_1
theorem dksX3_takes_0 : cX3_takes.data.toList.drop 0 = dktX3_takes_0 := by decide +kernel
theorem dksX3_takes_1 : cX3_takes.data.toList.drop 22 = dktX3_takes_1 := dk_seg dksX3_takes_0 22 rfl rfl
theorem dksX3_takes_2 : cX3_takes.data.toList.drop 46 = dktX3_takes_2 := dk_seg dksX3_takes_1 24 rfl rfl
theorem dksX3_takes_3 : cX3_takes.data.toList.drop 70 = dktX3_takes_3 := dk_seg dksX3_takes_2 24 rfl rfl
theorem dX3_takes_0 : decode cX3_takes 0 = .ok (.aload_n 0, 1) := dk_42 (dk_at dksX3_takes_0 0 rfl rfl)
theorem dX3_takes_1 : decode cX3_takes 1 = .ok (.getfield 71, 3) := dk_180 0 71 (dk_at dksX3_takes_0 1 rfl rfl)
theorem dX3_takes_4 : decode cX3_takes 4 = .ok (.iload_n 2, 1) := dk_28 (dk_at dksX3_takes_0 4 rfl rfl)
theorem dX3_takes_5 : decode cX3_takes 5 = .ok (.iaload, 1) := dk_46 (dk_at dksX3_takes_0 5 rfl rfl)
theorem dX3_takes_6 : decode cX3_takes 6 = .ok (.iload_n 1, 1) := dk_27 (dk_at dksX3_takes_0 6 rfl rfl)
theorem dX3_takes_7 : decode cX3_takes 7 = .ok (.if_icmp .eq 12, 3) := dk_159 0 12 (dk_at dksX3_takes_0 7 rfl rfl)
theorem dX3_takes_10 : decode cX3_takes 10 = .ok (.aload_n 0, 1) := dk_42 (dk_at dksX3_takes_0 10 rfl rfl)
theorem dX3_takes_11 : decode cX3_takes 11 = .ok (.iload_n 1, 1) := dk_27 (dk_at dksX3_takes_0 11 rfl rfl)
theorem dX3_takes_12 : decode cX3_takes 12 = .ok (.invokevirtual 143, 3) := dk_182 0 143 (dk_at dksX3_takes_0 12 rfl rfl)
theorem dX3_takes_15 : decode cX3_takes 15 = .ok (.iconst 3, 1) := dk_6 (dk_at dksX3_takes_0 15 rfl rfl)
theorem dX3_takes_16 : decode cX3_takes 16 = .ok (.if_icmp .ne 5, 3) := dk_160 0 5 (dk_at dksX3_takes_0 16 rfl rfl)
theorem dX3_takes_19 : decode cX3_takes 19 = .ok (.iconst 1, 1) := dk_4 (dk_at dksX3_takes_0 19 rfl rfl)
theorem dX3_takes_20 : decode cX3_takes 20 = .ok (.ireturn, 1) := dk_172 (dk_at dksX3_takes_0 20 rfl rfl)
theorem dX3_takes_21 : decode cX3_takes 21 = .ok (.aload_n 0, 1) := dk_42 (dk_at dksX3_takes_0 21 rfl rfl)
theorem dX3_takes_22 : decode cX3_takes 22 = .ok (.getfield 71, 3) := dk_180 0 71 (dk_at dksX3_takes_1 0 rfl rfl)
theorem dX3_takes_25 : decode cX3_takes 25 = .ok (.iload_n 2, 1) := dk_28 (dk_at dksX3_takes_1 3 rfl rfl)
theorem dX3_takes_26 : decode cX3_takes 26 = .ok (.iaload, 1) := dk_46 (dk_at dksX3_takes_1 4 rfl rfl)
theorem dX3_takes_27 : decode cX3_takes 27 = .ok (.ifCond .ge 12, 3) := dk_156 0 12 (dk_at dksX3_takes_1 5 rfl rfl)
theorem dX3_takes_30 : decode cX3_takes 30 = .ok (.aload_n 0, 1) := dk_42 (dk_at dksX3_takes_1 8 rfl rfl)
theorem dX3_takes_31 : decode cX3_takes 31 = .ok (.getfield 71, 3) := dk_180 0 71 (dk_at dksX3_takes_1 9 rfl rfl)
theorem dX3_takes_34 : decode cX3_takes 34 = .ok (.iload_n 2, 1) := dk_28 (dk_at dksX3_takes_1 12 rfl rfl)
theorem dX3_takes_35 : decode cX3_takes 35 = .ok (.iload_n 1, 1) := dk_27 (dk_at dksX3_takes_1 13 rfl rfl)
theorem dX3_takes_36 : decode cX3_takes 36 = .ok (.iastore, 1) := dk_79 (dk_at dksX3_takes_1 14 rfl rfl)
theorem dX3_takes_37 : decode cX3_takes 37 = .ok (.iconst 1, 1) := dk_4 (dk_at dksX3_takes_1 15 rfl rfl)
theorem dX3_takes_38 : decode cX3_takes 38 = .ok (.ireturn, 1) := dk_172 (dk_at dksX3_takes_1 16 rfl rfl)
theorem dX3_takes_39 : decode cX3_takes 39 = .ok (.aload_n 0, 1) := dk_42 (dk_at dksX3_takes_1 17 rfl rfl)
theorem dX3_takes_40 : decode cX3_takes 40 = .ok (.getfield 74, 3) := dk_180 0 74 (dk_at dksX3_takes_1 18 rfl rfl)
theorem dX3_takes_43 : decode cX3_takes 43 = .ok (.bipush 6, 2) := dk_16 6 (dk_at dksX3_takes_1 21 rfl rfl)
theorem dX3_takes_45 : decode cX3_takes 45 = .ok (.iload_n 2, 1) := dk_28 (dk_at dksX3_takes_1 23 rfl rfl)
theorem dX3_takes_46 : decode cX3_takes 46 = .ok (.imul, 1) := dk_104 (dk_at dksX3_takes_2 0 rfl rfl)
theorem dX3_takes_47 : decode cX3_takes 47 = .ok (.aload_n 0, 1) := dk_42 (dk_at dksX3_takes_2 1 rfl rfl)
theorem dX3_takes_48 : decode cX3_takes 48 = .ok (.getfield 77, 3) := dk_180 0 77 (dk_at dksX3_takes_2 2 rfl rfl)
theorem dX3_takes_51 : decode cX3_takes 51 = .ok (.iload_n 2, 1) := dk_28 (dk_at dksX3_takes_2 5 rfl rfl)
theorem dX3_takes_52 : decode cX3_takes 52 = .ok (.iaload, 1) := dk_46 (dk_at dksX3_takes_2 6 rfl rfl)
theorem dX3_takes_53 : decode cX3_takes 53 = .ok (.iadd, 1) := dk_96 (dk_at dksX3_takes_2 7 rfl rfl)
theorem dX3_takes_54 : decode cX3_takes 54 = .ok (.iload_n 1, 1) := dk_27 (dk_at dksX3_takes_2 8 rfl rfl)
theorem dX3_takes_55 : decode cX3_takes 55 = .ok (.iastore, 1) := dk_79 (dk_at dksX3_takes_2 9 rfl rfl)
theorem dX3_takes_56 : decode cX3_takes 56 = .ok (.aload_n 0, 1) := dk_42 (dk_at dksX3_takes_2 10 rfl rfl)
theorem dX3_takes_57 : decode cX3_takes 57 = .ok (.getfield 77, 3) := dk_180 0 77 (dk_at dksX3_takes_2 11 rfl rfl)
theorem dX3_takes_60 : decode cX3_takes 60 = .ok (.iload_n 2, 1) := dk_28 (dk_at dksX3_takes_2 14 rfl rfl)
theorem dX3_takes_61 : decode cX3_takes 61 = .ok (.dup2, 1) := dk_92 (dk_at dksX3_takes_2 15 rfl rfl)
theorem dX3_takes_62 : decode cX3_takes 62 = .ok (.iaload, 1) := dk_46 (dk_at dksX3_takes_2 16 rfl rfl)
theorem dX3_takes_63 : decode cX3_takes 63 = .ok (.iconst 1, 1) := dk_4 (dk_at dksX3_takes_2 17 rfl rfl)
theorem dX3_takes_64 : decode cX3_takes 64 = .ok (.iadd, 1) := dk_96 (dk_at dksX3_takes_2 18 rfl rfl)
theorem dX3_takes_65 : decode cX3_takes 65 = .ok (.iastore, 1) := dk_79 (dk_at dksX3_takes_2 19 rfl rfl)
theorem dX3_takes_66 : decode cX3_takes 66 = .ok (.aload_n 0, 1) := dk_42 (dk_at dksX3_takes_2 20 rfl rfl)
theorem dX3_takes_67 : decode cX3_takes 67 = .ok (.getfield 56, 3) := dk_180 0 56 (dk_at dksX3_takes_2 21 rfl rfl)
theorem dX3_takes_70 : decode cX3_takes 70 = .ok (.iload_n 1, 1) := dk_27 (dk_at dksX3_takes_3 0 rfl rfl)
theorem dX3_takes_71 : decode cX3_takes 71 = .ok (.iload_n 2, 1) := dk_28 (dk_at dksX3_takes_3 1 rfl rfl)
theorem dX3_takes_72 : decode cX3_takes 72 = .ok (.iastore, 1) := dk_79 (dk_at dksX3_takes_3 2 rfl rfl)
theorem dX3_takes_73 : decode cX3_takes 73 = .ok (.iconst 0, 1) := dk_3 (dk_at dksX3_takes_3 3 rfl rfl)
theorem dX3_takes_74 : decode cX3_takes 74 = .ok (.ireturn, 1) := dk_172 (dk_at dksX3_takes_3 4 rfl rfl)
abbrev cX3_watches : ByteArray := prog_21_method_40_code
def yX3_watches : MethodName := ⟨RX3, "watches", "()V"⟩
def dkwX3_watches_4 : List UInt8 := [167, 255, 222, 132, 1, 1, 167, 255, 159, 177]
abbrev dktX3_watches_4 : List UInt8 := dkwX3_watches_4 ++ []
def dkwX3_watches_3 : List UInt8 := [180, 0, 65, 16, 6, 27, 104, 46, 61, 42, 28, 182, 0, 150, 42, 28, 42, 27, 182, 0, 130, 182, 0, 134]
abbrev dktX3_watches_3 : List UInt8 := dkwX3_watches_3 ++ dktX3_watches_4
def dkwX3_watches_2 : List UInt8 := [27, 51, 154, 0, 47, 42, 180, 0, 41, 27, 4, 84, 42, 180, 0, 68, 27, 46, 158, 0, 31, 42]
abbrev dktX3_watches_2 : List UInt8 := dkwX3_watches_2 ++ dktX3_watches_3
def dkwX3_watches_1 : List UInt8 := [153, 0, 7, 4, 167, 0, 4, 3, 96, 79, 42, 180, 0, 59, 27, 46, 8, 160, 0, 56, 42, 180, 0, 41]
abbrev dktX3_watches_1 : List UInt8 := dkwX3_watches_1 ++ dktX3_watches_2
def dkwX3_watches_0 : List UInt8 := [3, 60, 27, 42, 180, 0, 100, 162, 0, 95, 42, 180, 0, 59, 27, 92, 46, 42, 180, 0, 38, 27, 51]
abbrev dktX3_watches_0 : List UInt8 := dkwX3_watches_0 ++ dktX3_watches_1
theorem dksX3_watches_0 : cX3_watches.data.toList.drop 0 = dktX3_watches_0 := by decide +kernel
theorem dksX3_watches_1 : cX3_watches.data.toList.drop 23 = dktX3_watches_1 := dk_seg dksX3_watches_0 23 rfl rfl
theorem dksX3_watches_2 : cX3_watches.data.toList.drop 47 = dktX3_watches_2 := dk_seg dksX3_watches_1 24 rfl rfl
theorem dksX3_watches_3 : cX3_watches.data.toList.drop 69 = dktX3_watches_3 := dk_seg dksX3_watches_2 22 rfl rfl
theorem dksX3_watches_4 : cX3_watches.data.toList.drop 93 = dktX3_watches_4 := dk_seg dksX3_watches_3 24 rfl rfl
theorem dX3_watches_0 : decode cX3_watches 0 = .ok (.iconst 0, 1) := dk_3 (dk_at dksX3_watches_0 0 rfl rfl)
theorem dX3_watches_1 : decode cX3_watches 1 = .ok (.istore_n 1, 1) := dk_60 (dk_at dksX3_watches_0 1 rfl rfl)
theorem dX3_watches_2 : decode cX3_watches 2 = .ok (.iload_n 1, 1) := dk_27 (dk_at dksX3_watches_0 2 rfl rfl)
theorem dX3_watches_3 : decode cX3_watches 3 = .ok (.aload_n 0, 1) := dk_42 (dk_at dksX3_watches_0 3 rfl rfl)
theorem dX3_watches_4 : decode cX3_watches 4 = .ok (.getfield 100, 3) := dk_180 0 100 (dk_at dksX3_watches_0 4 rfl rfl)
theorem dX3_watches_7 : decode cX3_watches 7 = .ok (.if_icmp .ge 95, 3) := dk_162 0 95 (dk_at dksX3_watches_0 7 rfl rfl)
theorem dX3_watches_10 : decode cX3_watches 10 = .ok (.aload_n 0, 1) := dk_42 (dk_at dksX3_watches_0 10 rfl rfl)
theorem dX3_watches_11 : decode cX3_watches 11 = .ok (.getfield 59, 3) := dk_180 0 59 (dk_at dksX3_watches_0 11 rfl rfl)
theorem dX3_watches_14 : decode cX3_watches 14 = .ok (.iload_n 1, 1) := dk_27 (dk_at dksX3_watches_0 14 rfl rfl)
theorem dX3_watches_15 : decode cX3_watches 15 = .ok (.dup2, 1) := dk_92 (dk_at dksX3_watches_0 15 rfl rfl)
theorem dX3_watches_16 : decode cX3_watches 16 = .ok (.iaload, 1) := dk_46 (dk_at dksX3_watches_0 16 rfl rfl)
theorem dX3_watches_17 : decode cX3_watches 17 = .ok (.aload_n 0, 1) := dk_42 (dk_at dksX3_watches_0 17 rfl rfl)
theorem dX3_watches_18 : decode cX3_watches 18 = .ok (.getfield 38, 3) := dk_180 0 38 (dk_at dksX3_watches_0 18 rfl rfl)
theorem dX3_watches_21 : decode cX3_watches 21 = .ok (.iload_n 1, 1) := dk_27 (dk_at dksX3_watches_0 21 rfl rfl)
theorem dX3_watches_22 : decode cX3_watches 22 = .ok (.baload, 1) := dk_51 (dk_at dksX3_watches_0 22 rfl rfl)
theorem dX3_watches_23 : decode cX3_watches 23 = .ok (.ifCond .eq 7, 3) := dk_153 0 7 (dk_at dksX3_watches_1 0 rfl rfl)
theorem dX3_watches_26 : decode cX3_watches 26 = .ok (.iconst 1, 1) := dk_4 (dk_at dksX3_watches_1 3 rfl rfl)
theorem dX3_watches_27 : decode cX3_watches 27 = .ok (.goto 4, 3) := dk_167 0 4 (dk_at dksX3_watches_1 4 rfl rfl)
theorem dX3_watches_30 : decode cX3_watches 30 = .ok (.iconst 0, 1) := dk_3 (dk_at dksX3_watches_1 7 rfl rfl)
theorem dX3_watches_31 : decode cX3_watches 31 = .ok (.iadd, 1) := dk_96 (dk_at dksX3_watches_1 8 rfl rfl)
theorem dX3_watches_32 : decode cX3_watches 32 = .ok (.iastore, 1) := dk_79 (dk_at dksX3_watches_1 9 rfl rfl)
theorem dX3_watches_33 : decode cX3_watches 33 = .ok (.aload_n 0, 1) := dk_42 (dk_at dksX3_watches_1 10 rfl rfl)
theorem dX3_watches_34 : decode cX3_watches 34 = .ok (.getfield 59, 3) := dk_180 0 59 (dk_at dksX3_watches_1 11 rfl rfl)
theorem dX3_watches_37 : decode cX3_watches 37 = .ok (.iload_n 1, 1) := dk_27 (dk_at dksX3_watches_1 14 rfl rfl)
theorem dX3_watches_38 : decode cX3_watches 38 = .ok (.iaload, 1) := dk_46 (dk_at dksX3_watches_1 15 rfl rfl)
theorem dX3_watches_39 : decode cX3_watches 39 = .ok (.iconst 5, 1) := dk_8 (dk_at dksX3_watches_1 16 rfl rfl)
theorem dX3_watches_40 : decode cX3_watches 40 = .ok (.if_icmp .ne 56, 3) := dk_160 0 56 (dk_at dksX3_watches_1 17 rfl rfl)
theorem dX3_watches_43 : decode cX3_watches 43 = .ok (.aload_n 0, 1) := dk_42 (dk_at dksX3_watches_1 20 rfl rfl)
theorem dX3_watches_44 : decode cX3_watches 44 = .ok (.getfield 41, 3) := dk_180 0 41 (dk_at dksX3_watches_1 21 rfl rfl)
theorem dX3_watches_47 : decode cX3_watches 47 = .ok (.iload_n 1, 1) := dk_27 (dk_at dksX3_watches_2 0 rfl rfl)
theorem dX3_watches_48 : decode cX3_watches 48 = .ok (.baload, 1) := dk_51 (dk_at dksX3_watches_2 1 rfl rfl)
theorem dX3_watches_49 : decode cX3_watches 49 = .ok (.ifCond .ne 47, 3) := dk_154 0 47 (dk_at dksX3_watches_2 2 rfl rfl)
theorem dX3_watches_52 : decode cX3_watches 52 = .ok (.aload_n 0, 1) := dk_42 (dk_at dksX3_watches_2 5 rfl rfl)
theorem dX3_watches_53 : decode cX3_watches 53 = .ok (.getfield 41, 3) := dk_180 0 41 (dk_at dksX3_watches_2 6 rfl rfl)
theorem dX3_watches_56 : decode cX3_watches 56 = .ok (.iload_n 1, 1) := dk_27 (dk_at dksX3_watches_2 9 rfl rfl)
theorem dX3_watches_57 : decode cX3_watches 57 = .ok (.iconst 1, 1) := dk_4 (dk_at dksX3_watches_2 10 rfl rfl)
theorem dX3_watches_58 : decode cX3_watches 58 = .ok (.bastore, 1) := dk_84 (dk_at dksX3_watches_2 11 rfl rfl)
theorem dX3_watches_59 : decode cX3_watches 59 = .ok (.aload_n 0, 1) := dk_42 (dk_at dksX3_watches_2 12 rfl rfl)
theorem dX3_watches_60 : decode cX3_watches 60 = .ok (.getfield 68, 3) := dk_180 0 68 (dk_at dksX3_watches_2 13 rfl rfl)
theorem dX3_watches_63 : decode cX3_watches 63 = .ok (.iload_n 1, 1) := dk_27 (dk_at dksX3_watches_2 16 rfl rfl)
theorem dX3_watches_64 : decode cX3_watches 64 = .ok (.iaload, 1) := dk_46 (dk_at dksX3_watches_2 17 rfl rfl)
theorem dX3_watches_65 : decode cX3_watches 65 = .ok (.ifCond .le 31, 3) := dk_158 0 31 (dk_at dksX3_watches_2 18 rfl rfl)
theorem dX3_watches_68 : decode cX3_watches 68 = .ok (.aload_n 0, 1) := dk_42 (dk_at dksX3_watches_2 21 rfl rfl)
theorem dX3_watches_69 : decode cX3_watches 69 = .ok (.getfield 65, 3) := dk_180 0 65 (dk_at dksX3_watches_3 0 rfl rfl)
theorem dX3_watches_72 : decode cX3_watches 72 = .ok (.bipush 6, 2) := dk_16 6 (dk_at dksX3_watches_3 3 rfl rfl)
theorem dX3_watches_74 : decode cX3_watches 74 = .ok (.iload_n 1, 1) := dk_27 (dk_at dksX3_watches_3 5 rfl rfl)
theorem dX3_watches_75 : decode cX3_watches 75 = .ok (.imul, 1) := dk_104 (dk_at dksX3_watches_3 6 rfl rfl)
theorem dX3_watches_76 : decode cX3_watches 76 = .ok (.iaload, 1) := dk_46 (dk_at dksX3_watches_3 7 rfl rfl)
theorem dX3_watches_77 : decode cX3_watches 77 = .ok (.istore_n 2, 1) := dk_61 (dk_at dksX3_watches_3 8 rfl rfl)
theorem dX3_watches_78 : decode cX3_watches 78 = .ok (.aload_n 0, 1) := dk_42 (dk_at dksX3_watches_3 9 rfl rfl)
theorem dX3_watches_79 : decode cX3_watches 79 = .ok (.iload_n 2, 1) := dk_28 (dk_at dksX3_watches_3 10 rfl rfl)
theorem dX3_watches_80 : decode cX3_watches 80 = .ok (.invokevirtual 150, 3) := dk_182 0 150 (dk_at dksX3_watches_3 11 rfl rfl)
theorem dX3_watches_83 : decode cX3_watches 83 = .ok (.aload_n 0, 1) := dk_42 (dk_at dksX3_watches_3 14 rfl rfl)
theorem dX3_watches_84 : decode cX3_watches 84 = .ok (.iload_n 2, 1) := dk_28 (dk_at dksX3_watches_3 15 rfl rfl)
theorem dX3_watches_85 : decode cX3_watches 85 = .ok (.aload_n 0, 1) := dk_42 (dk_at dksX3_watches_3 16 rfl rfl)
theorem dX3_watches_86 : decode cX3_watches 86 = .ok (.iload_n 1, 1) := dk_27 (dk_at dksX3_watches_3 17 rfl rfl)
theorem dX3_watches_87 : decode cX3_watches 87 = .ok (.invokevirtual 130, 3) := dk_182 0 130 (dk_at dksX3_watches_3 18 rfl rfl)
theorem dX3_watches_90 : decode cX3_watches 90 = .ok (.invokevirtual 134, 3) := dk_182 0 134 (dk_at dksX3_watches_3 21 rfl rfl)
theorem dX3_watches_93 : decode cX3_watches 93 = .ok (.goto (-34), 3) := dk_167 255 222 (dk_at dksX3_watches_4 0 rfl rfl)
theorem dX3_watches_96 : decode cX3_watches 96 = .ok (.iinc 1 1, 3) := dk_132 1 1 (dk_at dksX3_watches_4 3 rfl rfl)
theorem dX3_watches_99 : decode cX3_watches 99 = .ok (.goto (-97), 3) := dk_167 255 159 (dk_at dksX3_watches_4 6 rfl rfl)
theorem dX3_watches_102 : decode cX3_watches 102 = .ok (.return_, 1) := dk_177 (dk_at dksX3_watches_4 9 rfl rfl)
abbrev cX3_slide : ByteArray := prog_21_method_42_code
def yX3_slide : MethodName := ⟨RX3, "slide", "(I)I"⟩
def dkwX3_slide_2 : List UInt8 := [42, 180, 0, 62, 27, 46, 172]
abbrev dktX3_slide_2 : List UInt8 := dkwX3_slide_2 ++ []
def dkwX3_slide_1 : List UInt8 := [180, 0, 62, 27, 46, 156, 0, 7, 4, 167, 0, 4, 3, 5, 182, 0, 103, 153, 0, 7, 3, 167, 0, 9]
abbrev dktX3_slide_1 : List UInt8 := dkwX3_slide_1 ++ dktX3_slide_2
def dkwX3_slide_0 : List UInt8 := [42, 42, 27, 182, 0, 123, 154, 0, 7, 4, 167, 0, 4, 3, 4, 182, 0, 103, 154, 0, 25, 42, 42]
abbrev dktX3_slide_0 : List UInt8 := dkwX3_slide_0 ++ dktX3_slide_1
theorem dksX3_slide_0 : cX3_slide.data.toList.drop 0 = dktX3_slide_0 := by decide +kernel
theorem dksX3_slide_1 : cX3_slide.data.toList.drop 23 = dktX3_slide_1 := dk_seg dksX3_slide_0 23 rfl rfl
theorem dksX3_slide_2 : cX3_slide.data.toList.drop 47 = dktX3_slide_2 := dk_seg dksX3_slide_1 24 rfl rfl
theorem dX3_slide_0 : decode cX3_slide 0 = .ok (.aload_n 0, 1) := dk_42 (dk_at dksX3_slide_0 0 rfl rfl)
theorem dX3_slide_1 : decode cX3_slide 1 = .ok (.aload_n 0, 1) := dk_42 (dk_at dksX3_slide_0 1 rfl rfl)
theorem dX3_slide_2 : decode cX3_slide 2 = .ok (.iload_n 1, 1) := dk_27 (dk_at dksX3_slide_0 2 rfl rfl)
theorem dX3_slide_3 : decode cX3_slide 3 = .ok (.invokevirtual 123, 3) := dk_182 0 123 (dk_at dksX3_slide_0 3 rfl rfl)
theorem dX3_slide_6 : decode cX3_slide 6 = .ok (.ifCond .ne 7, 3) := dk_154 0 7 (dk_at dksX3_slide_0 6 rfl rfl)
theorem dX3_slide_9 : decode cX3_slide 9 = .ok (.iconst 1, 1) := dk_4 (dk_at dksX3_slide_0 9 rfl rfl)
theorem dX3_slide_10 : decode cX3_slide 10 = .ok (.goto 4, 3) := dk_167 0 4 (dk_at dksX3_slide_0 10 rfl rfl)
theorem dX3_slide_13 : decode cX3_slide 13 = .ok (.iconst 0, 1) := dk_3 (dk_at dksX3_slide_0 13 rfl rfl)
theorem dX3_slide_14 : decode cX3_slide 14 = .ok (.iconst 1, 1) := dk_4 (dk_at dksX3_slide_0 14 rfl rfl)
theorem dX3_slide_15 : decode cX3_slide 15 = .ok (.invokevirtual 103, 3) := dk_182 0 103 (dk_at dksX3_slide_0 15 rfl rfl)
theorem dX3_slide_18 : decode cX3_slide 18 = .ok (.ifCond .ne 25, 3) := dk_154 0 25 (dk_at dksX3_slide_0 18 rfl rfl)
theorem dX3_slide_21 : decode cX3_slide 21 = .ok (.aload_n 0, 1) := dk_42 (dk_at dksX3_slide_0 21 rfl rfl)
theorem dX3_slide_22 : decode cX3_slide 22 = .ok (.aload_n 0, 1) := dk_42 (dk_at dksX3_slide_0 22 rfl rfl)
theorem dX3_slide_23 : decode cX3_slide 23 = .ok (.getfield 62, 3) := dk_180 0 62 (dk_at dksX3_slide_1 0 rfl rfl)
theorem dX3_slide_26 : decode cX3_slide 26 = .ok (.iload_n 1, 1) := dk_27 (dk_at dksX3_slide_1 3 rfl rfl)
theorem dX3_slide_27 : decode cX3_slide 27 = .ok (.iaload, 1) := dk_46 (dk_at dksX3_slide_1 4 rfl rfl)
theorem dX3_slide_28 : decode cX3_slide 28 = .ok (.ifCond .ge 7, 3) := dk_156 0 7 (dk_at dksX3_slide_1 5 rfl rfl)
theorem dX3_slide_31 : decode cX3_slide 31 = .ok (.iconst 1, 1) := dk_4 (dk_at dksX3_slide_1 8 rfl rfl)
theorem dX3_slide_32 : decode cX3_slide 32 = .ok (.goto 4, 3) := dk_167 0 4 (dk_at dksX3_slide_1 9 rfl rfl)
theorem dX3_slide_35 : decode cX3_slide 35 = .ok (.iconst 0, 1) := dk_3 (dk_at dksX3_slide_1 12 rfl rfl)
theorem dX3_slide_36 : decode cX3_slide 36 = .ok (.iconst 2, 1) := dk_5 (dk_at dksX3_slide_1 13 rfl rfl)
theorem dX3_slide_37 : decode cX3_slide 37 = .ok (.invokevirtual 103, 3) := dk_182 0 103 (dk_at dksX3_slide_1 14 rfl rfl)
theorem dX3_slide_40 : decode cX3_slide 40 = .ok (.ifCond .eq 7, 3) := dk_153 0 7 (dk_at dksX3_slide_1 17 rfl rfl)
theorem dX3_slide_43 : decode cX3_slide 43 = .ok (.iconst 0, 1) := dk_3 (dk_at dksX3_slide_1 20 rfl rfl)
theorem dX3_slide_44 : decode cX3_slide 44 = .ok (.goto 9, 3) := dk_167 0 9 (dk_at dksX3_slide_1 21 rfl rfl)
theorem dX3_slide_47 : decode cX3_slide 47 = .ok (.aload_n 0, 1) := dk_42 (dk_at dksX3_slide_2 0 rfl rfl)
theorem dX3_slide_48 : decode cX3_slide 48 = .ok (.getfield 62, 3) := dk_180 0 62 (dk_at dksX3_slide_2 1 rfl rfl)
theorem dX3_slide_51 : decode cX3_slide 51 = .ok (.iload_n 1, 1) := dk_27 (dk_at dksX3_slide_2 4 rfl rfl)
theorem dX3_slide_52 : decode cX3_slide 52 = .ok (.iaload, 1) := dk_46 (dk_at dksX3_slide_2 5 rfl rfl)
theorem dX3_slide_53 : decode cX3_slide 53 = .ok (.ireturn, 1) := dk_172 (dk_at dksX3_slide_2 6 rfl rfl)
abbrev cX3_holder : ByteArray := prog_21_method_44_code
def yX3_holder : MethodName := ⟨RX3, "holder", "(I)I"⟩
def dkwX3_holder_2 : List UInt8 := [42, 180, 0, 71, 27, 46, 172]
abbrev dktX3_holder_2 : List UInt8 := dkwX3_holder_2 ++ []
def dkwX3_holder_1 : List UInt8 := [180, 0, 71, 27, 46, 156, 0, 7, 4, 167, 0, 4, 3, 5, 182, 0, 103, 153, 0, 7, 3, 167, 0, 9]
abbrev dktX3_holder_1 : List UInt8 := dkwX3_holder_1 ++ dktX3_holder_2
def dkwX3_holder_0 : List UInt8 := [42, 27, 184, 0, 188, 154, 0, 7, 4, 167, 0, 4, 3, 4, 182, 0, 103, 154, 0, 25, 42, 42]
abbrev dktX3_holder_0 : List UInt8 := dkwX3_holder_0 ++ dktX3_holder_1
theorem dksX3_holder_0 : cX3_holder.data.toList.drop 0 = dktX3_holder_0 := by decide +kernel
theorem dksX3_holder_1 : cX3_holder.data.toList.drop 22 = dktX3_holder_1 := dk_seg dksX3_holder_0 22 rfl rfl
theorem dksX3_holder_2 : cX3_holder.data.toList.drop 46 = dktX3_holder_2 := dk_seg dksX3_holder_1 24 rfl rfl
theorem dX3_holder_0 : decode cX3_holder 0 = .ok (.aload_n 0, 1) := dk_42 (dk_at dksX3_holder_0 0 rfl rfl)
theorem dX3_holder_1 : decode cX3_holder 1 = .ok (.iload_n 1, 1) := dk_27 (dk_at dksX3_holder_0 1 rfl rfl)
theorem dX3_holder_2 : decode cX3_holder 2 = .ok (.invokestatic 188, 3) := dk_184 0 188 (dk_at dksX3_holder_0 2 rfl rfl)
theorem dX3_holder_5 : decode cX3_holder 5 = .ok (.ifCond .ne 7, 3) := dk_154 0 7 (dk_at dksX3_holder_0 5 rfl rfl)
theorem dX3_holder_8 : decode cX3_holder 8 = .ok (.iconst 1, 1) := dk_4 (dk_at dksX3_holder_0 8 rfl rfl)
theorem dX3_holder_9 : decode cX3_holder 9 = .ok (.goto 4, 3) := dk_167 0 4 (dk_at dksX3_holder_0 9 rfl rfl)
theorem dX3_holder_12 : decode cX3_holder 12 = .ok (.iconst 0, 1) := dk_3 (dk_at dksX3_holder_0 12 rfl rfl)
theorem dX3_holder_13 : decode cX3_holder 13 = .ok (.iconst 1, 1) := dk_4 (dk_at dksX3_holder_0 13 rfl rfl)
theorem dX3_holder_14 : decode cX3_holder 14 = .ok (.invokevirtual 103, 3) := dk_182 0 103 (dk_at dksX3_holder_0 14 rfl rfl)
theorem dX3_holder_17 : decode cX3_holder 17 = .ok (.ifCond .ne 25, 3) := dk_154 0 25 (dk_at dksX3_holder_0 17 rfl rfl)
theorem dX3_holder_20 : decode cX3_holder 20 = .ok (.aload_n 0, 1) := dk_42 (dk_at dksX3_holder_0 20 rfl rfl)
theorem dX3_holder_21 : decode cX3_holder 21 = .ok (.aload_n 0, 1) := dk_42 (dk_at dksX3_holder_0 21 rfl rfl)
theorem dX3_holder_22 : decode cX3_holder 22 = .ok (.getfield 71, 3) := dk_180 0 71 (dk_at dksX3_holder_1 0 rfl rfl)
theorem dX3_holder_25 : decode cX3_holder 25 = .ok (.iload_n 1, 1) := dk_27 (dk_at dksX3_holder_1 3 rfl rfl)
theorem dX3_holder_26 : decode cX3_holder 26 = .ok (.iaload, 1) := dk_46 (dk_at dksX3_holder_1 4 rfl rfl)
theorem dX3_holder_27 : decode cX3_holder 27 = .ok (.ifCond .ge 7, 3) := dk_156 0 7 (dk_at dksX3_holder_1 5 rfl rfl)
theorem dX3_holder_30 : decode cX3_holder 30 = .ok (.iconst 1, 1) := dk_4 (dk_at dksX3_holder_1 8 rfl rfl)
theorem dX3_holder_31 : decode cX3_holder 31 = .ok (.goto 4, 3) := dk_167 0 4 (dk_at dksX3_holder_1 9 rfl rfl)
theorem dX3_holder_34 : decode cX3_holder 34 = .ok (.iconst 0, 1) := dk_3 (dk_at dksX3_holder_1 12 rfl rfl)
theorem dX3_holder_35 : decode cX3_holder 35 = .ok (.iconst 2, 1) := dk_5 (dk_at dksX3_holder_1 13 rfl rfl)
theorem dX3_holder_36 : decode cX3_holder 36 = .ok (.invokevirtual 103, 3) := dk_182 0 103 (dk_at dksX3_holder_1 14 rfl rfl)
theorem dX3_holder_39 : decode cX3_holder 39 = .ok (.ifCond .eq 7, 3) := dk_153 0 7 (dk_at dksX3_holder_1 17 rfl rfl)
theorem dX3_holder_42 : decode cX3_holder 42 = .ok (.iconst 0, 1) := dk_3 (dk_at dksX3_holder_1 20 rfl rfl)
theorem dX3_holder_43 : decode cX3_holder 43 = .ok (.goto 9, 3) := dk_167 0 9 (dk_at dksX3_holder_1 21 rfl rfl)
theorem dX3_holder_46 : decode cX3_holder 46 = .ok (.aload_n 0, 1) := dk_42 (dk_at dksX3_holder_2 0 rfl rfl)
theorem dX3_holder_47 : decode cX3_holder 47 = .ok (.getfield 71, 3) := dk_180 0 71 (dk_at dksX3_holder_2 1 rfl rfl)
theorem dX3_holder_50 : decode cX3_holder 50 = .ok (.iload_n 1, 1) := dk_27 (dk_at dksX3_holder_2 4 rfl rfl)
theorem dX3_holder_51 : decode cX3_holder 51 = .ok (.iaload, 1) := dk_46 (dk_at dksX3_holder_2 5 rfl rfl)
theorem dX3_holder_52 : decode cX3_holder 52 = .ok (.ireturn, 1) := dk_172 (dk_at dksX3_holder_2 6 rfl rfl)
abbrev cX3_isDevice : ByteArray := prog_21_method_43_code
def yX3_isDevice : MethodName := ⟨RX3, "isDevice", "(I)Z"⟩
def dkwX3_isDevice_0 : List UInt8 := [26, 3, 8, 184, 0, 96, 172]
abbrev dktX3_isDevice_0 : List UInt8 := dkwX3_isDevice_0 ++ []
theorem dksX3_isDevice_0 : cX3_isDevice.data.toList.drop 0 = dktX3_isDevice_0 := by decide +kernel
theorem dX3_isDevice_0 : decode cX3_isDevice 0 = .ok (.iload_n 0, 1) := dk_26 (dk_at dksX3_isDevice_0 0 rfl rfl)
theorem dX3_isDevice_1 : decode cX3_isDevice 1 = .ok (.iconst 0, 1) := dk_3 (dk_at dksX3_isDevice_0 1 rfl rfl)
theorem dX3_isDevice_2 : decode cX3_isDevice 2 = .ok (.iconst 5, 1) := dk_8 (dk_at dksX3_isDevice_0 2 rfl rfl)
theorem dX3_isDevice_3 : decode cX3_isDevice 3 = .ok (.invokestatic 96, 3) := dk_184 0 96 (dk_at dksX3_isDevice_0 3 rfl rfl)
theorem dX3_isDevice_6 : decode cX3_isDevice 6 = .ok (.ireturn, 1) := dk_172 (dk_at dksX3_isDevice_0 6 rfl rfl)
abbrev cX3_queued : ByteArray := prog_21_method_45_code
def yX3_queued : MethodName := ⟨RX3, "queued", "(II)I"⟩
def dkwX3_queued_2 : List UInt8 := [153, 0, 7, 3, 167, 0, 14, 42, 180, 0, 74, 16, 6, 27, 104, 28, 96, 46, 172]
abbrev dktX3_queued_2 : List UInt8 := dkwX3_queued_2 ++ []
def dkwX3_queued_1 : List UInt8 := [180, 0, 77, 27, 46, 4, 100, 184, 0, 96, 154, 0, 7, 4, 167, 0, 4, 3, 5, 182, 0, 103]
abbrev dktX3_queued_1 : List UInt8 := dkwX3_queued_1 ++ dktX3_queued_2
def dkwX3_queued_0 : List UInt8 := [42, 27, 184, 0, 188, 154, 0, 7, 4, 167, 0, 4, 3, 4, 182, 0, 103, 154, 0, 32, 42, 28, 3, 42]
abbrev dktX3_queued_0 : List UInt8 := dkwX3_queued_0 ++ dktX3_queued_1
theorem dksX3_queued_0 : cX3_queued.data.toList.drop 0 = dktX3_queued_0 := by decide +kernel
theorem dksX3_queued_1 : cX3_queued.data.toList.drop 24 = dktX3_queued_1 := dk_seg dksX3_queued_0 24 rfl rfl
theorem dksX3_queued_2 : cX3_queued.data.toList.drop 46 = dktX3_queued_2 := dk_seg dksX3_queued_1 22 rfl rfl
theorem dX3_queued_0 : decode cX3_queued 0 = .ok (.aload_n 0, 1) := dk_42 (dk_at dksX3_queued_0 0 rfl rfl)
theorem dX3_queued_1 : decode cX3_queued 1 = .ok (.iload_n 1, 1) := dk_27 (dk_at dksX3_queued_0 1 rfl rfl)
theorem dX3_queued_2 : decode cX3_queued 2 = .ok (.invokestatic 188, 3) := dk_184 0 188 (dk_at dksX3_queued_0 2 rfl rfl)
theorem dX3_queued_5 : decode cX3_queued 5 = .ok (.ifCond .ne 7, 3) := dk_154 0 7 (dk_at dksX3_queued_0 5 rfl rfl)
theorem dX3_queued_8 : decode cX3_queued 8 = .ok (.iconst 1, 1) := dk_4 (dk_at dksX3_queued_0 8 rfl rfl)
theorem dX3_queued_9 : decode cX3_queued 9 = .ok (.goto 4, 3) := dk_167 0 4 (dk_at dksX3_queued_0 9 rfl rfl)
theorem dX3_queued_12 : decode cX3_queued 12 = .ok (.iconst 0, 1) := dk_3 (dk_at dksX3_queued_0 12 rfl rfl)
theorem dX3_queued_13 : decode cX3_queued 13 = .ok (.iconst 1, 1) := dk_4 (dk_at dksX3_queued_0 13 rfl rfl)
theorem dX3_queued_14 : decode cX3_queued 14 = .ok (.invokevirtual 103, 3) := dk_182 0 103 (dk_at dksX3_queued_0 14 rfl rfl)
theorem dX3_queued_17 : decode cX3_queued 17 = .ok (.ifCond .ne 32, 3) := dk_154 0 32 (dk_at dksX3_queued_0 17 rfl rfl)
theorem dX3_queued_20 : decode cX3_queued 20 = .ok (.aload_n 0, 1) := dk_42 (dk_at dksX3_queued_0 20 rfl rfl)
theorem dX3_queued_21 : decode cX3_queued 21 = .ok (.iload_n 2, 1) := dk_28 (dk_at dksX3_queued_0 21 rfl rfl)
theorem dX3_queued_22 : decode cX3_queued 22 = .ok (.iconst 0, 1) := dk_3 (dk_at dksX3_queued_0 22 rfl rfl)
theorem dX3_queued_23 : decode cX3_queued 23 = .ok (.aload_n 0, 1) := dk_42 (dk_at dksX3_queued_0 23 rfl rfl)
theorem dX3_queued_24 : decode cX3_queued 24 = .ok (.getfield 77, 3) := dk_180 0 77 (dk_at dksX3_queued_1 0 rfl rfl)
theorem dX3_queued_27 : decode cX3_queued 27 = .ok (.iload_n 1, 1) := dk_27 (dk_at dksX3_queued_1 3 rfl rfl)
theorem dX3_queued_28 : decode cX3_queued 28 = .ok (.iaload, 1) := dk_46 (dk_at dksX3_queued_1 4 rfl rfl)
theorem dX3_queued_29 : decode cX3_queued 29 = .ok (.iconst 1, 1) := dk_4 (dk_at dksX3_queued_1 5 rfl rfl)
theorem dX3_queued_30 : decode cX3_queued 30 = .ok (.isub, 1) := dk_100 (dk_at dksX3_queued_1 6 rfl rfl)
theorem dX3_queued_31 : decode cX3_queued 31 = .ok (.invokestatic 96, 3) := dk_184 0 96 (dk_at dksX3_queued_1 7 rfl rfl)
theorem dX3_queued_34 : decode cX3_queued 34 = .ok (.ifCond .ne 7, 3) := dk_154 0 7 (dk_at dksX3_queued_1 10 rfl rfl)
theorem dX3_queued_37 : decode cX3_queued 37 = .ok (.iconst 1, 1) := dk_4 (dk_at dksX3_queued_1 13 rfl rfl)
theorem dX3_queued_38 : decode cX3_queued 38 = .ok (.goto 4, 3) := dk_167 0 4 (dk_at dksX3_queued_1 14 rfl rfl)
theorem dX3_queued_41 : decode cX3_queued 41 = .ok (.iconst 0, 1) := dk_3 (dk_at dksX3_queued_1 17 rfl rfl)
theorem dX3_queued_42 : decode cX3_queued 42 = .ok (.iconst 2, 1) := dk_5 (dk_at dksX3_queued_1 18 rfl rfl)
theorem dX3_queued_43 : decode cX3_queued 43 = .ok (.invokevirtual 103, 3) := dk_182 0 103 (dk_at dksX3_queued_1 19 rfl rfl)
theorem dX3_queued_46 : decode cX3_queued 46 = .ok (.ifCond .eq 7, 3) := dk_153 0 7 (dk_at dksX3_queued_2 0 rfl rfl)
theorem dX3_queued_49 : decode cX3_queued 49 = .ok (.iconst 0, 1) := dk_3 (dk_at dksX3_queued_2 3 rfl rfl)
theorem dX3_queued_50 : decode cX3_queued 50 = .ok (.goto 14, 3) := dk_167 0 14 (dk_at dksX3_queued_2 4 rfl rfl)
theorem dX3_queued_53 : decode cX3_queued 53 = .ok (.aload_n 0, 1) := dk_42 (dk_at dksX3_queued_2 7 rfl rfl)
theorem dX3_queued_54 : decode cX3_queued 54 = .ok (.getfield 74, 3) := dk_180 0 74 (dk_at dksX3_queued_2 8 rfl rfl)
theorem dX3_queued_57 : decode cX3_queued 57 = .ok (.bipush 6, 2) := dk_16 6 (dk_at dksX3_queued_2 11 rfl rfl)
theorem dX3_queued_59 : decode cX3_queued 59 = .ok (.iload_n 1, 1) := dk_27 (dk_at dksX3_queued_2 13 rfl rfl)
theorem dX3_queued_60 : decode cX3_queued 60 = .ok (.imul, 1) := dk_104 (dk_at dksX3_queued_2 14 rfl rfl)
theorem dX3_queued_61 : decode cX3_queued 61 = .ok (.iload_n 2, 1) := dk_28 (dk_at dksX3_queued_2 15 rfl rfl)
theorem dX3_queued_62 : decode cX3_queued 62 = .ok (.iadd, 1) := dk_96 (dk_at dksX3_queued_2 16 rfl rfl)
theorem dX3_queued_63 : decode cX3_queued 63 = .ok (.iaload, 1) := dk_46 (dk_at dksX3_queued_2 17 rfl rfl)
theorem dX3_queued_64 : decode cX3_queued 64 = .ok (.ireturn, 1) := dk_172 (dk_at dksX3_queued_2 18 rfl rfl)
abbrev cX3_visitor : ByteArray := prog_21_method_46_code
def yX3_visitor : MethodName := ⟨RX3, "visitor", "()I"⟩
def dkwX3_visitor_1 : List UInt8 := [42, 89, 180, 0, 173, 4, 96, 181, 0, 173, 42, 180, 0, 173, 4, 100, 172]
abbrev dktX3_visitor_1 : List UInt8 := dkwX3_visitor_1 ++ []
def dkwX3_visitor_0 : List UInt8 := [42, 42, 180, 0, 173, 16, 10, 160, 0, 7, 4, 167, 0, 4, 3, 4, 182, 0, 103, 153, 0, 5, 3, 172]
abbrev dktX3_visitor_0 : List UInt8 := dkwX3_visitor_0 ++ dktX3_visitor_1
theorem dksX3_visitor_0 : cX3_visitor.data.toList.drop 0 = dktX3_visitor_0 := by decide +kernel
theorem dksX3_visitor_1 : cX3_visitor.data.toList.drop 24 = dktX3_visitor_1 := dk_seg dksX3_visitor_0 24 rfl rfl
theorem dX3_visitor_0 : decode cX3_visitor 0 = .ok (.aload_n 0, 1) := dk_42 (dk_at dksX3_visitor_0 0 rfl rfl)
theorem dX3_visitor_1 : decode cX3_visitor 1 = .ok (.aload_n 0, 1) := dk_42 (dk_at dksX3_visitor_0 1 rfl rfl)
theorem dX3_visitor_2 : decode cX3_visitor 2 = .ok (.getfield 173, 3) := dk_180 0 173 (dk_at dksX3_visitor_0 2 rfl rfl)
theorem dX3_visitor_5 : decode cX3_visitor 5 = .ok (.bipush 10, 2) := dk_16 10 (dk_at dksX3_visitor_0 5 rfl rfl)
theorem dX3_visitor_7 : decode cX3_visitor 7 = .ok (.if_icmp .ne 7, 3) := dk_160 0 7 (dk_at dksX3_visitor_0 7 rfl rfl)
theorem dX3_visitor_10 : decode cX3_visitor 10 = .ok (.iconst 1, 1) := dk_4 (dk_at dksX3_visitor_0 10 rfl rfl)
theorem dX3_visitor_11 : decode cX3_visitor 11 = .ok (.goto 4, 3) := dk_167 0 4 (dk_at dksX3_visitor_0 11 rfl rfl)
theorem dX3_visitor_14 : decode cX3_visitor 14 = .ok (.iconst 0, 1) := dk_3 (dk_at dksX3_visitor_0 14 rfl rfl)
theorem dX3_visitor_15 : decode cX3_visitor 15 = .ok (.iconst 1, 1) := dk_4 (dk_at dksX3_visitor_0 15 rfl rfl)
theorem dX3_visitor_16 : decode cX3_visitor 16 = .ok (.invokevirtual 103, 3) := dk_182 0 103 (dk_at dksX3_visitor_0 16 rfl rfl)
theorem dX3_visitor_19 : decode cX3_visitor 19 = .ok (.ifCond .eq 5, 3) := dk_153 0 5 (dk_at dksX3_visitor_0 19 rfl rfl)
theorem dX3_visitor_22 : decode cX3_visitor 22 = .ok (.iconst 0, 1) := dk_3 (dk_at dksX3_visitor_0 22 rfl rfl)
theorem dX3_visitor_23 : decode cX3_visitor 23 = .ok (.ireturn, 1) := dk_172 (dk_at dksX3_visitor_0 23 rfl rfl)
theorem dX3_visitor_24 : decode cX3_visitor 24 = .ok (.aload_n 0, 1) := dk_42 (dk_at dksX3_visitor_1 0 rfl rfl)
theorem dX3_visitor_25 : decode cX3_visitor 25 = .ok (.dup, 1) := dk_89 (dk_at dksX3_visitor_1 1 rfl rfl)
theorem dX3_visitor_26 : decode cX3_visitor 26 = .ok (.getfield 173, 3) := dk_180 0 173 (dk_at dksX3_visitor_1 2 rfl rfl)
theorem dX3_visitor_29 : decode cX3_visitor 29 = .ok (.iconst 1, 1) := dk_4 (dk_at dksX3_visitor_1 5 rfl rfl)
theorem dX3_visitor_30 : decode cX3_visitor 30 = .ok (.iadd, 1) := dk_96 (dk_at dksX3_visitor_1 6 rfl rfl)
theorem dX3_visitor_31 : decode cX3_visitor 31 = .ok (.putfield 173, 3) := dk_181 0 173 (dk_at dksX3_visitor_1 7 rfl rfl)
theorem dX3_visitor_34 : decode cX3_visitor 34 = .ok (.aload_n 0, 1) := dk_42 (dk_at dksX3_visitor_1 10 rfl rfl)
theorem dX3_visitor_35 : decode cX3_visitor 35 = .ok (.getfield 173, 3) := dk_180 0 173 (dk_at dksX3_visitor_1 11 rfl rfl)
theorem dX3_visitor_38 : decode cX3_visitor 38 = .ok (.iconst 1, 1) := dk_4 (dk_at dksX3_visitor_1 14 rfl rfl)
theorem dX3_visitor_39 : decode cX3_visitor 39 = .ok (.isub, 1) := dk_100 (dk_at dksX3_visitor_1 15 rfl rfl)
theorem dX3_visitor_40 : decode cX3_visitor 40 = .ok (.ireturn, 1) := dk_172 (dk_at dksX3_visitor_1 16 rfl rfl)
abbrev cX3_go : ByteArray := prog_21_method_48_code
def yX3_go : MethodName := ⟨RX3, "go", "(II)I"⟩
def dkwX3_go_2 : List UInt8 := [27, 28, 79, 29, 172]
abbrev dktX3_go_2 : List UInt8 := dkwX3_go_2 ++ []
def dkwX3_go_1 : List UInt8 := [167, 0, 4, 3, 4, 182, 0, 103, 153, 0, 5, 3, 172, 42, 180, 0, 83, 27, 46, 62, 42, 180, 0, 83]
abbrev dktX3_go_1 : List UInt8 := dkwX3_go_1 ++ dktX3_go_2
def dkwX3_go_0 : List UInt8 := [42, 27, 182, 0, 191, 154, 0, 29, 42, 28, 2, 159, 0, 15, 42, 28, 182, 0, 123, 154, 0, 7, 4]
abbrev dktX3_go_0 : List UInt8 := dkwX3_go_0 ++ dktX3_go_1
theorem dksX3_go_0 : cX3_go.data.toList.drop 0 = dktX3_go_0 := by decide +kernel
theorem dksX3_go_1 : cX3_go.data.toList.drop 23 = dktX3_go_1 := dk_seg dksX3_go_0 23 rfl rfl
theorem dksX3_go_2 : cX3_go.data.toList.drop 47 = dktX3_go_2 := dk_seg dksX3_go_1 24 rfl rfl
theorem dX3_go_0 : decode cX3_go 0 = .ok (.aload_n 0, 1) := dk_42 (dk_at dksX3_go_0 0 rfl rfl)
theorem dX3_go_1 : decode cX3_go 1 = .ok (.iload_n 1, 1) := dk_27 (dk_at dksX3_go_0 1 rfl rfl)
theorem dX3_go_2 : decode cX3_go 2 = .ok (.invokevirtual 191, 3) := dk_182 0 191 (dk_at dksX3_go_0 2 rfl rfl)
theorem dX3_go_5 : decode cX3_go 5 = .ok (.ifCond .ne 29, 3) := dk_154 0 29 (dk_at dksX3_go_0 5 rfl rfl)
theorem dX3_go_8 : decode cX3_go 8 = .ok (.aload_n 0, 1) := dk_42 (dk_at dksX3_go_0 8 rfl rfl)
theorem dX3_go_9 : decode cX3_go 9 = .ok (.iload_n 2, 1) := dk_28 (dk_at dksX3_go_0 9 rfl rfl)
theorem dX3_go_10 : decode cX3_go 10 = .ok (.iconst (-1), 1) := dk_2 (dk_at dksX3_go_0 10 rfl rfl)
theorem dX3_go_11 : decode cX3_go 11 = .ok (.if_icmp .eq 15, 3) := dk_159 0 15 (dk_at dksX3_go_0 11 rfl rfl)
theorem dX3_go_14 : decode cX3_go 14 = .ok (.aload_n 0, 1) := dk_42 (dk_at dksX3_go_0 14 rfl rfl)
theorem dX3_go_15 : decode cX3_go 15 = .ok (.iload_n 2, 1) := dk_28 (dk_at dksX3_go_0 15 rfl rfl)
theorem dX3_go_16 : decode cX3_go 16 = .ok (.invokevirtual 123, 3) := dk_182 0 123 (dk_at dksX3_go_0 16 rfl rfl)
theorem dX3_go_19 : decode cX3_go 19 = .ok (.ifCond .ne 7, 3) := dk_154 0 7 (dk_at dksX3_go_0 19 rfl rfl)
theorem dX3_go_22 : decode cX3_go 22 = .ok (.iconst 1, 1) := dk_4 (dk_at dksX3_go_0 22 rfl rfl)
theorem dX3_go_23 : decode cX3_go 23 = .ok (.goto 4, 3) := dk_167 0 4 (dk_at dksX3_go_1 0 rfl rfl)
theorem dX3_go_26 : decode cX3_go 26 = .ok (.iconst 0, 1) := dk_3 (dk_at dksX3_go_1 3 rfl rfl)
theorem dX3_go_27 : decode cX3_go 27 = .ok (.iconst 1, 1) := dk_4 (dk_at dksX3_go_1 4 rfl rfl)
theorem dX3_go_28 : decode cX3_go 28 = .ok (.invokevirtual 103, 3) := dk_182 0 103 (dk_at dksX3_go_1 5 rfl rfl)
theorem dX3_go_31 : decode cX3_go 31 = .ok (.ifCond .eq 5, 3) := dk_153 0 5 (dk_at dksX3_go_1 8 rfl rfl)
theorem dX3_go_34 : decode cX3_go 34 = .ok (.iconst 0, 1) := dk_3 (dk_at dksX3_go_1 11 rfl rfl)
theorem dX3_go_35 : decode cX3_go 35 = .ok (.ireturn, 1) := dk_172 (dk_at dksX3_go_1 12 rfl rfl)
theorem dX3_go_36 : decode cX3_go 36 = .ok (.aload_n 0, 1) := dk_42 (dk_at dksX3_go_1 13 rfl rfl)
theorem dX3_go_37 : decode cX3_go 37 = .ok (.getfield 83, 3) := dk_180 0 83 (dk_at dksX3_go_1 14 rfl rfl)
theorem dX3_go_40 : decode cX3_go 40 = .ok (.iload_n 1, 1) := dk_27 (dk_at dksX3_go_1 17 rfl rfl)
theorem dX3_go_41 : decode cX3_go 41 = .ok (.iaload, 1) := dk_46 (dk_at dksX3_go_1 18 rfl rfl)
theorem dX3_go_42 : decode cX3_go 42 = .ok (.istore_n 3, 1) := dk_62 (dk_at dksX3_go_1 19 rfl rfl)
theorem dX3_go_43 : decode cX3_go 43 = .ok (.aload_n 0, 1) := dk_42 (dk_at dksX3_go_1 20 rfl rfl)
theorem dX3_go_44 : decode cX3_go 44 = .ok (.getfield 83, 3) := dk_180 0 83 (dk_at dksX3_go_1 21 rfl rfl)
theorem dX3_go_47 : decode cX3_go 47 = .ok (.iload_n 1, 1) := dk_27 (dk_at dksX3_go_2 0 rfl rfl)
theorem dX3_go_48 : decode cX3_go 48 = .ok (.iload_n 2, 1) := dk_28 (dk_at dksX3_go_2 1 rfl rfl)
theorem dX3_go_49 : decode cX3_go 49 = .ok (.iastore, 1) := dk_79 (dk_at dksX3_go_2 2 rfl rfl)
theorem dX3_go_50 : decode cX3_go 50 = .ok (.iload_n 3, 1) := dk_29 (dk_at dksX3_go_2 3 rfl rfl)
theorem dX3_go_51 : decode cX3_go 51 = .ok (.ireturn, 1) := dk_172 (dk_at dksX3_go_2 4 rfl rfl)
abbrev cX3_isNoVisitor : ByteArray := prog_21_method_47_code
def yX3_isNoVisitor : MethodName := ⟨RX3, "isNoVisitor", "(I)Z"⟩
def dkwX3_isNoVisitor_1 : List UInt8 := [172]
abbrev dktX3_isNoVisitor_1 : List UInt8 := dkwX3_isNoVisitor_1 ++ []
def dkwX3_isNoVisitor_0 : List UInt8 := [42, 27, 3, 42, 180, 0, 173, 4, 100, 184, 0, 96, 154, 0, 7, 4, 167, 0, 4, 3, 4, 182, 0, 103]
abbrev dktX3_isNoVisitor_0 : List UInt8 := dkwX3_isNoVisitor_0 ++ dktX3_isNoVisitor_1
theorem dksX3_isNoVisitor_0 : cX3_isNoVisitor.data.toList.drop 0 = dktX3_isNoVisitor_0 := by decide +kernel
theorem dksX3_isNoVisitor_1 : cX3_isNoVisitor.data.toList.drop 24 = dktX3_isNoVisitor_1 := dk_seg dksX3_isNoVisitor_0 24 rfl rfl
theorem dX3_isNoVisitor_0 : decode cX3_isNoVisitor 0 = .ok (.aload_n 0, 1) := dk_42 (dk_at dksX3_isNoVisitor_0 0 rfl rfl)
theorem dX3_isNoVisitor_1 : decode cX3_isNoVisitor 1 = .ok (.iload_n 1, 1) := dk_27 (dk_at dksX3_isNoVisitor_0 1 rfl rfl)
theorem dX3_isNoVisitor_2 : decode cX3_isNoVisitor 2 = .ok (.iconst 0, 1) := dk_3 (dk_at dksX3_isNoVisitor_0 2 rfl rfl)
theorem dX3_isNoVisitor_3 : decode cX3_isNoVisitor 3 = .ok (.aload_n 0, 1) := dk_42 (dk_at dksX3_isNoVisitor_0 3 rfl rfl)
theorem dX3_isNoVisitor_4 : decode cX3_isNoVisitor 4 = .ok (.getfield 173, 3) := dk_180 0 173 (dk_at dksX3_isNoVisitor_0 4 rfl rfl)
theorem dX3_isNoVisitor_7 : decode cX3_isNoVisitor 7 = .ok (.iconst 1, 1) := dk_4 (dk_at dksX3_isNoVisitor_0 7 rfl rfl)
theorem dX3_isNoVisitor_8 : decode cX3_isNoVisitor 8 = .ok (.isub, 1) := dk_100 (dk_at dksX3_isNoVisitor_0 8 rfl rfl)
theorem dX3_isNoVisitor_9 : decode cX3_isNoVisitor 9 = .ok (.invokestatic 96, 3) := dk_184 0 96 (dk_at dksX3_isNoVisitor_0 9 rfl rfl)
theorem dX3_isNoVisitor_12 : decode cX3_isNoVisitor 12 = .ok (.ifCond .ne 7, 3) := dk_154 0 7 (dk_at dksX3_isNoVisitor_0 12 rfl rfl)
theorem dX3_isNoVisitor_15 : decode cX3_isNoVisitor 15 = .ok (.iconst 1, 1) := dk_4 (dk_at dksX3_isNoVisitor_0 15 rfl rfl)
theorem dX3_isNoVisitor_16 : decode cX3_isNoVisitor 16 = .ok (.goto 4, 3) := dk_167 0 4 (dk_at dksX3_isNoVisitor_0 16 rfl rfl)
theorem dX3_isNoVisitor_19 : decode cX3_isNoVisitor 19 = .ok (.iconst 0, 1) := dk_3 (dk_at dksX3_isNoVisitor_0 19 rfl rfl)
theorem dX3_isNoVisitor_20 : decode cX3_isNoVisitor 20 = .ok (.iconst 1, 1) := dk_4 (dk_at dksX3_isNoVisitor_0 20 rfl rfl)
theorem dX3_isNoVisitor_21 : decode cX3_isNoVisitor 21 = .ok (.invokevirtual 103, 3) := dk_182 0 103 (dk_at dksX3_isNoVisitor_0 21 rfl rfl)
theorem dX3_isNoVisitor_24 : decode cX3_isNoVisitor 24 = .ok (.ireturn, 1) := dk_172 (dk_at dksX3_isNoVisitor_1 0 rfl rfl)
abbrev cX3_ask : ByteArray := prog_21_method_49_code
def yX3_ask : MethodName := ⟨RX3, "ask", "(II)Z"⟩
def dkwX3_ask_2 : List UInt8 := [180, 0, 80, 16, 100, 27, 104, 28, 96, 46, 158, 0, 7, 4, 167, 0, 4, 3, 172]
abbrev dktX3_ask_2 : List UInt8 := dkwX3_ask_2 ++ []
def dkwX3_ask_1 : List UInt8 := [5, 182, 0, 103, 153, 0, 5, 3, 172, 42, 180, 0, 86, 16, 100, 27, 104, 28, 96, 4, 84, 42]
abbrev dktX3_ask_1 : List UInt8 := dkwX3_ask_1 ++ dktX3_ask_2
def dkwX3_ask_0 : List UInt8 := [42, 27, 182, 0, 191, 154, 0, 26, 42, 28, 3, 16, 99, 184, 0, 96, 154, 0, 7, 4, 167, 0, 4, 3]
abbrev dktX3_ask_0 : List UInt8 := dkwX3_ask_0 ++ dktX3_ask_1
theorem dksX3_ask_0 : cX3_ask.data.toList.drop 0 = dktX3_ask_0 := by decide +kernel
theorem dksX3_ask_1 : cX3_ask.data.toList.drop 24 = dktX3_ask_1 := dk_seg dksX3_ask_0 24 rfl rfl
theorem dksX3_ask_2 : cX3_ask.data.toList.drop 46 = dktX3_ask_2 := dk_seg dksX3_ask_1 22 rfl rfl
theorem dX3_ask_0 : decode cX3_ask 0 = .ok (.aload_n 0, 1) := dk_42 (dk_at dksX3_ask_0 0 rfl rfl)
theorem dX3_ask_1 : decode cX3_ask 1 = .ok (.iload_n 1, 1) := dk_27 (dk_at dksX3_ask_0 1 rfl rfl)
theorem dX3_ask_2 : decode cX3_ask 2 = .ok (.invokevirtual 191, 3) := dk_182 0 191 (dk_at dksX3_ask_0 2 rfl rfl)
theorem dX3_ask_5 : decode cX3_ask 5 = .ok (.ifCond .ne 26, 3) := dk_154 0 26 (dk_at dksX3_ask_0 5 rfl rfl)
theorem dX3_ask_8 : decode cX3_ask 8 = .ok (.aload_n 0, 1) := dk_42 (dk_at dksX3_ask_0 8 rfl rfl)
theorem dX3_ask_9 : decode cX3_ask 9 = .ok (.iload_n 2, 1) := dk_28 (dk_at dksX3_ask_0 9 rfl rfl)
theorem dX3_ask_10 : decode cX3_ask 10 = .ok (.iconst 0, 1) := dk_3 (dk_at dksX3_ask_0 10 rfl rfl)
theorem dX3_ask_11 : decode cX3_ask 11 = .ok (.bipush 99, 2) := dk_16 99 (dk_at dksX3_ask_0 11 rfl rfl)
theorem dX3_ask_13 : decode cX3_ask 13 = .ok (.invokestatic 96, 3) := dk_184 0 96 (dk_at dksX3_ask_0 13 rfl rfl)
theorem dX3_ask_16 : decode cX3_ask 16 = .ok (.ifCond .ne 7, 3) := dk_154 0 7 (dk_at dksX3_ask_0 16 rfl rfl)
theorem dX3_ask_19 : decode cX3_ask 19 = .ok (.iconst 1, 1) := dk_4 (dk_at dksX3_ask_0 19 rfl rfl)
theorem dX3_ask_20 : decode cX3_ask 20 = .ok (.goto 4, 3) := dk_167 0 4 (dk_at dksX3_ask_0 20 rfl rfl)
theorem dX3_ask_23 : decode cX3_ask 23 = .ok (.iconst 0, 1) := dk_3 (dk_at dksX3_ask_0 23 rfl rfl)
theorem dX3_ask_24 : decode cX3_ask 24 = .ok (.iconst 2, 1) := dk_5 (dk_at dksX3_ask_1 0 rfl rfl)
theorem dX3_ask_25 : decode cX3_ask 25 = .ok (.invokevirtual 103, 3) := dk_182 0 103 (dk_at dksX3_ask_1 1 rfl rfl)
theorem dX3_ask_28 : decode cX3_ask 28 = .ok (.ifCond .eq 5, 3) := dk_153 0 5 (dk_at dksX3_ask_1 4 rfl rfl)
theorem dX3_ask_31 : decode cX3_ask 31 = .ok (.iconst 0, 1) := dk_3 (dk_at dksX3_ask_1 7 rfl rfl)
theorem dX3_ask_32 : decode cX3_ask 32 = .ok (.ireturn, 1) := dk_172 (dk_at dksX3_ask_1 8 rfl rfl)
theorem dX3_ask_33 : decode cX3_ask 33 = .ok (.aload_n 0, 1) := dk_42 (dk_at dksX3_ask_1 9 rfl rfl)
theorem dX3_ask_34 : decode cX3_ask 34 = .ok (.getfield 86, 3) := dk_180 0 86 (dk_at dksX3_ask_1 10 rfl rfl)
theorem dX3_ask_37 : decode cX3_ask 37 = .ok (.bipush 100, 2) := dk_16 100 (dk_at dksX3_ask_1 13 rfl rfl)
theorem dX3_ask_39 : decode cX3_ask 39 = .ok (.iload_n 1, 1) := dk_27 (dk_at dksX3_ask_1 15 rfl rfl)
theorem dX3_ask_40 : decode cX3_ask 40 = .ok (.imul, 1) := dk_104 (dk_at dksX3_ask_1 16 rfl rfl)
theorem dX3_ask_41 : decode cX3_ask 41 = .ok (.iload_n 2, 1) := dk_28 (dk_at dksX3_ask_1 17 rfl rfl)
theorem dX3_ask_42 : decode cX3_ask 42 = .ok (.iadd, 1) := dk_96 (dk_at dksX3_ask_1 18 rfl rfl)
theorem dX3_ask_43 : decode cX3_ask 43 = .ok (.iconst 1, 1) := dk_4 (dk_at dksX3_ask_1 19 rfl rfl)
theorem dX3_ask_44 : decode cX3_ask 44 = .ok (.bastore, 1) := dk_84 (dk_at dksX3_ask_1 20 rfl rfl)
theorem dX3_ask_45 : decode cX3_ask 45 = .ok (.aload_n 0, 1) := dk_42 (dk_at dksX3_ask_1 21 rfl rfl)
theorem dX3_ask_46 : decode cX3_ask 46 = .ok (.getfield 80, 3) := dk_180 0 80 (dk_at dksX3_ask_2 0 rfl rfl)
theorem dX3_ask_49 : decode cX3_ask 49 = .ok (.bipush 100, 2) := dk_16 100 (dk_at dksX3_ask_2 3 rfl rfl)
theorem dX3_ask_51 : decode cX3_ask 51 = .ok (.iload_n 1, 1) := dk_27 (dk_at dksX3_ask_2 5 rfl rfl)
theorem dX3_ask_52 : decode cX3_ask 52 = .ok (.imul, 1) := dk_104 (dk_at dksX3_ask_2 6 rfl rfl)
theorem dX3_ask_53 : decode cX3_ask 53 = .ok (.iload_n 2, 1) := dk_28 (dk_at dksX3_ask_2 7 rfl rfl)
theorem dX3_ask_54 : decode cX3_ask 54 = .ok (.iadd, 1) := dk_96 (dk_at dksX3_ask_2 8 rfl rfl)
theorem dX3_ask_55 : decode cX3_ask 55 = .ok (.iaload, 1) := dk_46 (dk_at dksX3_ask_2 9 rfl rfl)
theorem dX3_ask_56 : decode cX3_ask 56 = .ok (.ifCond .le 7, 3) := dk_158 0 7 (dk_at dksX3_ask_2 10 rfl rfl)
theorem dX3_ask_59 : decode cX3_ask 59 = .ok (.iconst 1, 1) := dk_4 (dk_at dksX3_ask_2 13 rfl rfl)
theorem dX3_ask_60 : decode cX3_ask 60 = .ok (.goto 4, 3) := dk_167 0 4 (dk_at dksX3_ask_2 14 rfl rfl)
theorem dX3_ask_63 : decode cX3_ask 63 = .ok (.iconst 0, 1) := dk_3 (dk_at dksX3_ask_2 17 rfl rfl)
theorem dX3_ask_64 : decode cX3_ask 64 = .ok (.ireturn, 1) := dk_172 (dk_at dksX3_ask_2 18 rfl rfl)
abbrev cX3_saw : ByteArray := prog_21_method_50_code
def yX3_saw : MethodName := ⟨RX3, "saw", "(II)I"⟩
def dkwX3_saw_1 : List UInt8 := [5, 182, 0, 103, 153, 0, 7, 3, 167, 0, 14, 42, 180, 0, 80, 16, 100, 27, 104, 28, 96, 46, 172]
abbrev dktX3_saw_1 : List UInt8 := dkwX3_saw_1 ++ []
def dkwX3_saw_0 : List UInt8 := [42, 27, 182, 0, 191, 154, 0, 26, 42, 28, 3, 16, 99, 184, 0, 96, 154, 0, 7, 4, 167, 0, 4, 3]
abbrev dktX3_saw_0 : List UInt8 := dkwX3_saw_0 ++ dktX3_saw_1
theorem dksX3_saw_0 : cX3_saw.data.toList.drop 0 = dktX3_saw_0 := by decide +kernel
theorem dksX3_saw_1 : cX3_saw.data.toList.drop 24 = dktX3_saw_1 := dk_seg dksX3_saw_0 24 rfl rfl
theorem dX3_saw_0 : decode cX3_saw 0 = .ok (.aload_n 0, 1) := dk_42 (dk_at dksX3_saw_0 0 rfl rfl)
theorem dX3_saw_1 : decode cX3_saw 1 = .ok (.iload_n 1, 1) := dk_27 (dk_at dksX3_saw_0 1 rfl rfl)
theorem dX3_saw_2 : decode cX3_saw 2 = .ok (.invokevirtual 191, 3) := dk_182 0 191 (dk_at dksX3_saw_0 2 rfl rfl)
theorem dX3_saw_5 : decode cX3_saw 5 = .ok (.ifCond .ne 26, 3) := dk_154 0 26 (dk_at dksX3_saw_0 5 rfl rfl)
theorem dX3_saw_8 : decode cX3_saw 8 = .ok (.aload_n 0, 1) := dk_42 (dk_at dksX3_saw_0 8 rfl rfl)
theorem dX3_saw_9 : decode cX3_saw 9 = .ok (.iload_n 2, 1) := dk_28 (dk_at dksX3_saw_0 9 rfl rfl)
theorem dX3_saw_10 : decode cX3_saw 10 = .ok (.iconst 0, 1) := dk_3 (dk_at dksX3_saw_0 10 rfl rfl)
theorem dX3_saw_11 : decode cX3_saw 11 = .ok (.bipush 99, 2) := dk_16 99 (dk_at dksX3_saw_0 11 rfl rfl)
theorem dX3_saw_13 : decode cX3_saw 13 = .ok (.invokestatic 96, 3) := dk_184 0 96 (dk_at dksX3_saw_0 13 rfl rfl)
theorem dX3_saw_16 : decode cX3_saw 16 = .ok (.ifCond .ne 7, 3) := dk_154 0 7 (dk_at dksX3_saw_0 16 rfl rfl)
theorem dX3_saw_19 : decode cX3_saw 19 = .ok (.iconst 1, 1) := dk_4 (dk_at dksX3_saw_0 19 rfl rfl)
theorem dX3_saw_20 : decode cX3_saw 20 = .ok (.goto 4, 3) := dk_167 0 4 (dk_at dksX3_saw_0 20 rfl rfl)
theorem dX3_saw_23 : decode cX3_saw 23 = .ok (.iconst 0, 1) := dk_3 (dk_at dksX3_saw_0 23 rfl rfl)
theorem dX3_saw_24 : decode cX3_saw 24 = .ok (.iconst 2, 1) := dk_5 (dk_at dksX3_saw_1 0 rfl rfl)
theorem dX3_saw_25 : decode cX3_saw 25 = .ok (.invokevirtual 103, 3) := dk_182 0 103 (dk_at dksX3_saw_1 1 rfl rfl)
theorem dX3_saw_28 : decode cX3_saw 28 = .ok (.ifCond .eq 7, 3) := dk_153 0 7 (dk_at dksX3_saw_1 4 rfl rfl)
theorem dX3_saw_31 : decode cX3_saw 31 = .ok (.iconst 0, 1) := dk_3 (dk_at dksX3_saw_1 7 rfl rfl)
theorem dX3_saw_32 : decode cX3_saw 32 = .ok (.goto 14, 3) := dk_167 0 14 (dk_at dksX3_saw_1 8 rfl rfl)
theorem dX3_saw_35 : decode cX3_saw 35 = .ok (.aload_n 0, 1) := dk_42 (dk_at dksX3_saw_1 11 rfl rfl)
theorem dX3_saw_36 : decode cX3_saw 36 = .ok (.getfield 80, 3) := dk_180 0 80 (dk_at dksX3_saw_1 12 rfl rfl)
theorem dX3_saw_39 : decode cX3_saw 39 = .ok (.bipush 100, 2) := dk_16 100 (dk_at dksX3_saw_1 15 rfl rfl)
theorem dX3_saw_41 : decode cX3_saw 41 = .ok (.iload_n 1, 1) := dk_27 (dk_at dksX3_saw_1 17 rfl rfl)
theorem dX3_saw_42 : decode cX3_saw 42 = .ok (.imul, 1) := dk_104 (dk_at dksX3_saw_1 18 rfl rfl)
theorem dX3_saw_43 : decode cX3_saw 43 = .ok (.iload_n 2, 1) := dk_28 (dk_at dksX3_saw_1 19 rfl rfl)
theorem dX3_saw_44 : decode cX3_saw 44 = .ok (.iadd, 1) := dk_96 (dk_at dksX3_saw_1 20 rfl rfl)
theorem dX3_saw_45 : decode cX3_saw 45 = .ok (.iaload, 1) := dk_46 (dk_at dksX3_saw_1 21 rfl rfl)
theorem dX3_saw_46 : decode cX3_saw 46 = .ok (.ireturn, 1) := dk_172 (dk_at dksX3_saw_1 22 rfl rfl)
abbrev cX3_done : ByteArray := prog_21_method_51_code
def yX3_done : MethodName := ⟨RX3, "done", "()J"⟩
def dkwX3_done_0 : List UInt8 := [42, 3, 181, 0, 89, 42, 180, 0, 156, 173]
abbrev dktX3_done_0 : List UInt8 := dkwX3_done_0 ++ []
theorem dksX3_done_0 : cX3_done.data.toList.drop 0 = dktX3_done_0 := by decide +kernel
theorem dX3_done_0 : decode cX3_done 0 = .ok (.aload_n 0, 1) := dk_42 (dk_at dksX3_done_0 0 rfl rfl)
theorem dX3_done_1 : decode cX3_done 1 = .ok (.iconst 0, 1) := dk_3 (dk_at dksX3_done_0 1 rfl rfl)
theorem dX3_done_2 : decode cX3_done 2 = .ok (.putfield 89, 3) := dk_181 0 89 (dk_at dksX3_done_0 2 rfl rfl)
theorem dX3_done_5 : decode cX3_done 5 = .ok (.aload_n 0, 1) := dk_42 (dk_at dksX3_done_0 5 rfl rfl)
theorem dX3_done_6 : decode cX3_done 6 = .ok (.getfield 156, 3) := dk_180 0 156 (dk_at dksX3_done_0 6 rfl rfl)
theorem dX3_done_9 : decode cX3_done 9 = .ok (.lreturn, 1) := dk_173 (dk_at dksX3_done_0 9 rfl rfl)
abbrev cX3_heldShare : ByteArray := prog_21_method_52_code
def yX3_heldShare : MethodName := ⟨RX3, "heldShare", "()F"⟩
def dkwX3_heldShare_0 : List UInt8 := [42, 3, 181, 0, 89, 16, 6, 42, 2, 182, 0, 143, 100, 134, 18, 194, 110, 174]
abbrev dktX3_heldShare_0 : List UInt8 := dkwX3_heldShare_0 ++ []
theorem dksX3_heldShare_0 : cX3_heldShare.data.toList.drop 0 = dktX3_heldShare_0 := by decide +kernel
theorem dX3_heldShare_0 : decode cX3_heldShare 0 = .ok (.aload_n 0, 1) := dk_42 (dk_at dksX3_heldShare_0 0 rfl rfl)
theorem dX3_heldShare_1 : decode cX3_heldShare 1 = .ok (.iconst 0, 1) := dk_3 (dk_at dksX3_heldShare_0 1 rfl rfl)
theorem dX3_heldShare_2 : decode cX3_heldShare 2 = .ok (.putfield 89, 3) := dk_181 0 89 (dk_at dksX3_heldShare_0 2 rfl rfl)
theorem dX3_heldShare_5 : decode cX3_heldShare 5 = .ok (.bipush 6, 2) := dk_16 6 (dk_at dksX3_heldShare_0 5 rfl rfl)
theorem dX3_heldShare_7 : decode cX3_heldShare 7 = .ok (.aload_n 0, 1) := dk_42 (dk_at dksX3_heldShare_0 7 rfl rfl)
theorem dX3_heldShare_8 : decode cX3_heldShare 8 = .ok (.iconst (-1), 1) := dk_2 (dk_at dksX3_heldShare_0 8 rfl rfl)
theorem dX3_heldShare_9 : decode cX3_heldShare 9 = .ok (.invokevirtual 143, 3) := dk_182 0 143 (dk_at dksX3_heldShare_0 9 rfl rfl)
theorem dX3_heldShare_12 : decode cX3_heldShare 12 = .ok (.isub, 1) := dk_100 (dk_at dksX3_heldShare_0 12 rfl rfl)
theorem dX3_heldShare_13 : decode cX3_heldShare 13 = .ok (.i2f, 1) := dk_134 (dk_at dksX3_heldShare_0 13 rfl rfl)
theorem dX3_heldShare_14 : decode cX3_heldShare 14 = .ok (.ldc 194, 2) := dk_18 194 (dk_at dksX3_heldShare_0 14 rfl rfl)
theorem dX3_heldShare_16 : decode cX3_heldShare 16 = .ok (.fdiv, 1) := dk_110 (dk_at dksX3_heldShare_0 16 rfl rfl)
theorem dX3_heldShare_17 : decode cX3_heldShare 17 = .ok (.freturn, 1) := dk_174 (dk_at dksX3_heldShare_0 17 rfl rfl)
abbrev cX3_heldBits : ByteArray := prog_21_method_53_code
def yX3_heldBits : MethodName := ⟨RX3, "heldBits", "()I"⟩
def dkwX3_heldBits_0 : List UInt8 := [42, 182, 0, 195, 184, 0, 199, 172]
abbrev dktX3_heldBits_0 : List UInt8 := dkwX3_heldBits_0 ++ []
theorem dksX3_heldBits_0 : cX3_heldBits.data.toList.drop 0 = dktX3_heldBits_0 := by decide +kernel
theorem dX3_heldBits_0 : decode cX3_heldBits 0 = .ok (.aload_n 0, 1) := dk_42 (dk_at dksX3_heldBits_0 0 rfl rfl)
theorem dX3_heldBits_1 : decode cX3_heldBits 1 = .ok (.invokevirtual 195, 3) := dk_182 0 195 (dk_at dksX3_heldBits_0 1 rfl rfl)
theorem dX3_heldBits_4 : decode cX3_heldBits 4 = .ok (.invokestatic 199, 3) := dk_184 0 199 (dk_at dksX3_heldBits_0 4 rfl rfl)
theorem dX3_heldBits_7 : decode cX3_heldBits 7 = .ok (.ireturn, 1) := dk_172 (dk_at dksX3_heldBits_0 7 rfl rfl)
abbrev cX3_meanSeen : ByteArray := prog_21_method_54_code
def yX3_meanSeen : MethodName := ⟨RX3, "meanSeen", "()D"⟩
def dkwX3_meanSeen_2 : List UInt8 := [153, 0, 7, 14, 167, 0, 11, 31, 138, 42, 180, 0, 173, 135, 111, 175]
abbrev dktX3_meanSeen_2 : List UInt8 := dkwX3_meanSeen_2 ++ []
def dkwX3_meanSeen_1 : List UInt8 := [64, 132, 3, 1, 167, 255, 232, 42, 42, 180, 0, 173, 154, 0, 7, 4, 167, 0, 4, 3, 4, 182, 0, 103]
abbrev dktX3_meanSeen_1 : List UInt8 := dkwX3_meanSeen_1 ++ dktX3_meanSeen_2
def dkwX3_meanSeen_0 : List UInt8 := [9, 64, 3, 62, 29, 16, 100, 42, 180, 0, 173, 104, 162, 0, 19, 31, 42, 180, 0, 80, 29, 46, 133, 97]
abbrev dktX3_meanSeen_0 : List UInt8 := dkwX3_meanSeen_0 ++ dktX3_meanSeen_1
theorem dksX3_meanSeen_0 : cX3_meanSeen.data.toList.drop 0 = dktX3_meanSeen_0 := by decide +kernel
theorem dksX3_meanSeen_1 : cX3_meanSeen.data.toList.drop 24 = dktX3_meanSeen_1 := dk_seg dksX3_meanSeen_0 24 rfl rfl
theorem dksX3_meanSeen_2 : cX3_meanSeen.data.toList.drop 48 = dktX3_meanSeen_2 := dk_seg dksX3_meanSeen_1 24 rfl rfl
theorem dX3_meanSeen_0 : decode cX3_meanSeen 0 = .ok (.lconst 0, 1) := dk_9 (dk_at dksX3_meanSeen_0 0 rfl rfl)
theorem dX3_meanSeen_1 : decode cX3_meanSeen 1 = .ok (.lstore_n 1, 1) := dk_64 (dk_at dksX3_meanSeen_0 1 rfl rfl)
theorem dX3_meanSeen_2 : decode cX3_meanSeen 2 = .ok (.iconst 0, 1) := dk_3 (dk_at dksX3_meanSeen_0 2 rfl rfl)
theorem dX3_meanSeen_3 : decode cX3_meanSeen 3 = .ok (.istore_n 3, 1) := dk_62 (dk_at dksX3_meanSeen_0 3 rfl rfl)
theorem dX3_meanSeen_4 : decode cX3_meanSeen 4 = .ok (.iload_n 3, 1) := dk_29 (dk_at dksX3_meanSeen_0 4 rfl rfl)
theorem dX3_meanSeen_5 : decode cX3_meanSeen 5 = .ok (.bipush 100, 2) := dk_16 100 (dk_at dksX3_meanSeen_0 5 rfl rfl)
theorem dX3_meanSeen_7 : decode cX3_meanSeen 7 = .ok (.aload_n 0, 1) := dk_42 (dk_at dksX3_meanSeen_0 7 rfl rfl)
theorem dX3_meanSeen_8 : decode cX3_meanSeen 8 = .ok (.getfield 173, 3) := dk_180 0 173 (dk_at dksX3_meanSeen_0 8 rfl rfl)
theorem dX3_meanSeen_11 : decode cX3_meanSeen 11 = .ok (.imul, 1) := dk_104 (dk_at dksX3_meanSeen_0 11 rfl rfl)
theorem dX3_meanSeen_12 : decode cX3_meanSeen 12 = .ok (.if_icmp .ge 19, 3) := dk_162 0 19 (dk_at dksX3_meanSeen_0 12 rfl rfl)
theorem dX3_meanSeen_15 : decode cX3_meanSeen 15 = .ok (.lload_n 1, 1) := dk_31 (dk_at dksX3_meanSeen_0 15 rfl rfl)
theorem dX3_meanSeen_16 : decode cX3_meanSeen 16 = .ok (.aload_n 0, 1) := dk_42 (dk_at dksX3_meanSeen_0 16 rfl rfl)
theorem dX3_meanSeen_17 : decode cX3_meanSeen 17 = .ok (.getfield 80, 3) := dk_180 0 80 (dk_at dksX3_meanSeen_0 17 rfl rfl)
theorem dX3_meanSeen_20 : decode cX3_meanSeen 20 = .ok (.iload_n 3, 1) := dk_29 (dk_at dksX3_meanSeen_0 20 rfl rfl)
theorem dX3_meanSeen_21 : decode cX3_meanSeen 21 = .ok (.iaload, 1) := dk_46 (dk_at dksX3_meanSeen_0 21 rfl rfl)
theorem dX3_meanSeen_22 : decode cX3_meanSeen 22 = .ok (.i2l, 1) := dk_133 (dk_at dksX3_meanSeen_0 22 rfl rfl)
theorem dX3_meanSeen_23 : decode cX3_meanSeen 23 = .ok (.ladd, 1) := dk_97 (dk_at dksX3_meanSeen_0 23 rfl rfl)
theorem dX3_meanSeen_24 : decode cX3_meanSeen 24 = .ok (.lstore_n 1, 1) := dk_64 (dk_at dksX3_meanSeen_1 0 rfl rfl)
theorem dX3_meanSeen_25 : decode cX3_meanSeen 25 = .ok (.iinc 3 1, 3) := dk_132 3 1 (dk_at dksX3_meanSeen_1 1 rfl rfl)
theorem dX3_meanSeen_28 : decode cX3_meanSeen 28 = .ok (.goto (-24), 3) := dk_167 255 232 (dk_at dksX3_meanSeen_1 4 rfl rfl)
theorem dX3_meanSeen_31 : decode cX3_meanSeen 31 = .ok (.aload_n 0, 1) := dk_42 (dk_at dksX3_meanSeen_1 7 rfl rfl)
theorem dX3_meanSeen_32 : decode cX3_meanSeen 32 = .ok (.aload_n 0, 1) := dk_42 (dk_at dksX3_meanSeen_1 8 rfl rfl)
theorem dX3_meanSeen_33 : decode cX3_meanSeen 33 = .ok (.getfield 173, 3) := dk_180 0 173 (dk_at dksX3_meanSeen_1 9 rfl rfl)
theorem dX3_meanSeen_36 : decode cX3_meanSeen 36 = .ok (.ifCond .ne 7, 3) := dk_154 0 7 (dk_at dksX3_meanSeen_1 12 rfl rfl)
theorem dX3_meanSeen_39 : decode cX3_meanSeen 39 = .ok (.iconst 1, 1) := dk_4 (dk_at dksX3_meanSeen_1 15 rfl rfl)
theorem dX3_meanSeen_40 : decode cX3_meanSeen 40 = .ok (.goto 4, 3) := dk_167 0 4 (dk_at dksX3_meanSeen_1 16 rfl rfl)
theorem dX3_meanSeen_43 : decode cX3_meanSeen 43 = .ok (.iconst 0, 1) := dk_3 (dk_at dksX3_meanSeen_1 19 rfl rfl)
theorem dX3_meanSeen_44 : decode cX3_meanSeen 44 = .ok (.iconst 1, 1) := dk_4 (dk_at dksX3_meanSeen_1 20 rfl rfl)
theorem dX3_meanSeen_45 : decode cX3_meanSeen 45 = .ok (.invokevirtual 103, 3) := dk_182 0 103 (dk_at dksX3_meanSeen_1 21 rfl rfl)
theorem dX3_meanSeen_48 : decode cX3_meanSeen 48 = .ok (.ifCond .eq 7, 3) := dk_153 0 7 (dk_at dksX3_meanSeen_2 0 rfl rfl)
theorem dX3_meanSeen_51 : decode cX3_meanSeen 51 = .ok (.dconst 0, 1) := dk_14 (dk_at dksX3_meanSeen_2 3 rfl rfl)
theorem dX3_meanSeen_52 : decode cX3_meanSeen 52 = .ok (.goto 11, 3) := dk_167 0 11 (dk_at dksX3_meanSeen_2 4 rfl rfl)
theorem dX3_meanSeen_55 : decode cX3_meanSeen 55 = .ok (.lload_n 1, 1) := dk_31 (dk_at dksX3_meanSeen_2 7 rfl rfl)
theorem dX3_meanSeen_56 : decode cX3_meanSeen 56 = .ok (.l2d, 1) := dk_138 (dk_at dksX3_meanSeen_2 8 rfl rfl)
theorem dX3_meanSeen_57 : decode cX3_meanSeen 57 = .ok (.aload_n 0, 1) := dk_42 (dk_at dksX3_meanSeen_2 9 rfl rfl)
theorem dX3_meanSeen_58 : decode cX3_meanSeen 58 = .ok (.getfield 173, 3) := dk_180 0 173 (dk_at dksX3_meanSeen_2 10 rfl rfl)
theorem dX3_meanSeen_61 : decode cX3_meanSeen 61 = .ok (.i2d, 1) := dk_135 (dk_at dksX3_meanSeen_2 13 rfl rfl)
theorem dX3_meanSeen_62 : decode cX3_meanSeen 62 = .ok (.ddiv, 1) := dk_111 (dk_at dksX3_meanSeen_2 14 rfl rfl)
theorem dX3_meanSeen_63 : decode cX3_meanSeen 63 = .ok (.dreturn, 1) := dk_175 (dk_at dksX3_meanSeen_2 15 rfl rfl)
abbrev cX3_isSound : ByteArray := prog_21_method_55_code
def yX3_isSound : MethodName := ⟨RX3, "isSound", "()Z"⟩
def dkwX3_isSound_0 : List UInt8 := [42, 3, 181, 0, 89, 4, 172]
abbrev dktX3_isSound_0 : List UInt8 := dkwX3_isSound_0 ++ []
theorem dksX3_isSound_0 : cX3_isSound.data.toList.drop 0 = dktX3_isSound_0 := by decide +kernel
theorem dX3_isSound_0 : decode cX3_isSound 0 = .ok (.aload_n 0, 1) := dk_42 (dk_at dksX3_isSound_0 0 rfl rfl)
theorem dX3_isSound_1 : decode cX3_isSound 1 = .ok (.iconst 0, 1) := dk_3 (dk_at dksX3_isSound_0 1 rfl rfl)
theorem dX3_isSound_2 : decode cX3_isSound 2 = .ok (.putfield 89, 3) := dk_181 0 89 (dk_at dksX3_isSound_0 2 rfl rfl)
theorem dX3_isSound_5 : decode cX3_isSound 5 = .ok (.iconst 1, 1) := dk_4 (dk_at dksX3_isSound_0 5 rfl rfl)
theorem dX3_isSound_6 : decode cX3_isSound 6 = .ok (.ireturn, 1) := dk_172 (dk_at dksX3_isSound_0 6 rfl rfl)
theorem q52 : (Jvm.Cond.initialized "KioskReelModel") ∈ lw_all := lw_g (lw_at lw_m1 10 rfl) rfl
theorem q198 : (Jvm.Cond.selects "KioskReelModel" ({ cls := "java/lang/Object", name := "getClass", desc := "()Ljava/lang/Class;" } : Jvm.MethodName) ({ cls := "java/lang/Object", name := "getClass", desc := "()Ljava/lang/Class;" } : Jvm.MethodName)) ∈ lw_all := lw_g (lw_at lw_m1 156 rfl) rfl
theorem q448 : (Jvm.Cond.selects "KioskReelModel" ({ cls := "java/lang/Object", name := "equals", desc := "(Ljava/lang/Object;)Z" } : Jvm.MethodName) ({ cls := "java/lang/Object", name := "equals", desc := "(Ljava/lang/Object;)Z" } : Jvm.MethodName)) ∈ lw_all := lw_g (lw_at lw_m2 166 rfl) rfl
theorem q1548 : (Jvm.Cond.instantiable "KioskReelModel" (32 : Nat)) ∈ lw_all := lw_g (lw_at lw_m7 66 rfl) rfl
theorem q1550 : (Jvm.Cond.instanceMethod ({ cls := "KioskReelModel", name := "<init>", desc := "()V" } : Jvm.MethodName)) ∈ lw_all := lw_g (lw_at lw_m7 68 rfl) rfl
theorem q1551 : (Jvm.Cond.code ({ cls := "KioskReelModel", name := "<init>", desc := "()V" } : Jvm.MethodName) prog_21_method_1_code (2 : Nat) (Option.none : Option Jvm.ClassFile.FieldType)) ∈ lw_all := lw_g (lw_at lw_m7 69 rfl) rfl
theorem q1552 : (Jvm.Cond.methodLink "KioskReelModel" (1 : Nat) ({ cls := "java/lang/Object", name := "<init>", desc := "()V" } : Jvm.MethodName)) ∈ lw_all := lw_g (lw_at lw_m7 70 rfl) rfl
theorem q1553 : (Jvm.Cond.fieldLink "KioskReelModel" (7 : Nat) "KioskReelModel" "many" "[I") ∈ lw_all := lw_g (lw_at lw_m7 71 rfl) rfl
theorem q1554 : (Jvm.Cond.fieldLink "KioskReelModel" (13 : Nat) "KioskReelModel" "kind" "[I") ∈ lw_all := lw_g (lw_at lw_m7 72 rfl) rfl
theorem q1555 : (Jvm.Cond.fieldLink "KioskReelModel" (16 : Nat) "KioskReelModel" "number" "[I") ∈ lw_all := lw_g (lw_at lw_m7 73 rfl) rfl
theorem q1556 : (Jvm.Cond.fieldLink "KioskReelModel" (19 : Nat) "KioskReelModel" "pileMany" "[I") ∈ lw_all := lw_g (lw_at lw_m7 74 rfl) rfl
theorem q1557 : (Jvm.Cond.fieldLink "KioskReelModel" (22 : Nat) "KioskReelModel" "pileKind" "[I") ∈ lw_all := lw_g (lw_at lw_m7 75 rfl) rfl
theorem q1558 : (Jvm.Cond.fieldLink "KioskReelModel" (25 : Nat) "KioskReelModel" "pileNumber" "[I") ∈ lw_all := lw_g (lw_at lw_m7 76 rfl) rfl
theorem q1559 : (Jvm.Cond.fieldLink "KioskReelModel" (28 : Nat) "KioskReelModel" "pileList" "[I") ∈ lw_all := lw_g (lw_at lw_m7 77 rfl) rfl
theorem q1560 : (Jvm.Cond.fieldLink "KioskReelModel" (31 : Nat) "KioskReelModel" "pileNext" "[I") ∈ lw_all := lw_g (lw_at lw_m7 78 rfl) rfl
theorem q1561 : (Jvm.Cond.fieldLink "KioskReelModel" (34 : Nat) "KioskReelModel" "hasPlayer" "[Z") ∈ lw_all := lw_g (lw_at lw_m7 79 rfl) rfl
theorem q1562 : (Jvm.Cond.fieldLink "KioskReelModel" (38 : Nat) "KioskReelModel" "isFrozen" "[Z") ∈ lw_all := lw_g (lw_at lw_m7 80 rfl) rfl
theorem q1563 : (Jvm.Cond.fieldLink "KioskReelModel" (41 : Nat) "KioskReelModel" "isOut" "[Z") ∈ lw_all := lw_g (lw_at lw_m7 81 rfl) rfl
theorem q1564 : (Jvm.Cond.fieldLink "KioskReelModel" (44 : Nat) "KioskReelModel" "depth" "[I") ∈ lw_all := lw_g (lw_at lw_m7 82 rfl) rfl
theorem q1565 : (Jvm.Cond.fieldLink "KioskReelModel" (47 : Nat) "KioskReelModel" "at" "[I") ∈ lw_all := lw_g (lw_at lw_m7 83 rfl) rfl
theorem q1566 : (Jvm.Cond.fieldLink "KioskReelModel" (50 : Nat) "KioskReelModel" "counts" "[I") ∈ lw_all := lw_g (lw_at lw_m7 84 rfl) rfl
theorem q1567 : (Jvm.Cond.fieldLink "KioskReelModel" (53 : Nat) "KioskReelModel" "ticks" "[I") ∈ lw_all := lw_g (lw_at lw_m7 85 rfl) rfl
theorem q1568 : (Jvm.Cond.fieldLink "KioskReelModel" (56 : Nat) "KioskReelModel" "wanted" "[I") ∈ lw_all := lw_g (lw_at lw_m7 86 rfl) rfl
theorem q1569 : (Jvm.Cond.fieldLink "KioskReelModel" (59 : Nat) "KioskReelModel" "frozenFor" "[I") ∈ lw_all := lw_g (lw_at lw_m7 87 rfl) rfl
theorem q1570 : (Jvm.Cond.fieldLink "KioskReelModel" (62 : Nat) "KioskReelModel" "slide" "[I") ∈ lw_all := lw_g (lw_at lw_m7 88 rfl) rfl
theorem q1571 : (Jvm.Cond.fieldLink "KioskReelModel" (65 : Nat) "KioskReelModel" "playing" "[I") ∈ lw_all := lw_g (lw_at lw_m7 89 rfl) rfl
theorem q1572 : (Jvm.Cond.fieldLink "KioskReelModel" (68 : Nat) "KioskReelModel" "playingMany" "[I") ∈ lw_all := lw_g (lw_at lw_m7 90 rfl) rfl
theorem q1573 : (Jvm.Cond.fieldLink "KioskReelModel" (71 : Nat) "KioskReelModel" "holder" "[I") ∈ lw_all := lw_g (lw_at lw_m7 91 rfl) rfl
theorem q1574 : (Jvm.Cond.fieldLink "KioskReelModel" (74 : Nat) "KioskReelModel" "queue" "[I") ∈ lw_all := lw_g (lw_at lw_m7 92 rfl) rfl
theorem q1575 : (Jvm.Cond.fieldLink "KioskReelModel" (77 : Nat) "KioskReelModel" "queueMany" "[I") ∈ lw_all := lw_g (lw_at lw_m7 93 rfl) rfl
theorem q1576 : (Jvm.Cond.fieldLink "KioskReelModel" (80 : Nat) "KioskReelModel" "saw" "[I") ∈ lw_all := lw_g (lw_at lw_m7 94 rfl) rfl
theorem q1577 : (Jvm.Cond.fieldLink "KioskReelModel" (83 : Nat) "KioskReelModel" "place" "[I") ∈ lw_all := lw_g (lw_at lw_m7 95 rfl) rfl
theorem q1578 : (Jvm.Cond.fieldLink "KioskReelModel" (86 : Nat) "KioskReelModel" "asked" "[Z") ∈ lw_all := lw_g (lw_at lw_m7 96 rfl) rfl
theorem q1579 : (Jvm.Cond.fieldLink "KioskReelModel" (93 : Nat) "KioskReelModel" "lists" "I") ∈ lw_all := lw_g (lw_at lw_m7 97 rfl) rfl
theorem q1580 : (Jvm.Cond.fieldLink "KioskReelModel" (100 : Nat) "KioskReelModel" "kiosks" "I") ∈ lw_all := lw_g (lw_at lw_m7 98 rfl) rfl
theorem q1581 : (Jvm.Cond.fieldLink "KioskReelModel" (173 : Nat) "KioskReelModel" "visitors" "I") ∈ lw_all := lw_g (lw_at lw_m7 99 rfl) rfl
theorem q1582 : (Jvm.Cond.fieldLink "KioskReelModel" (179 : Nat) "KioskReelModel" "shown" "I") ∈ lw_all := lw_g (lw_at lw_m7 100 rfl) rfl
theorem q1583 : (Jvm.Cond.fieldLink "KioskReelModel" (89 : Nat) "KioskReelModel" "thrown" "I") ∈ lw_all := lw_g (lw_at lw_m7 101 rfl) rfl
theorem q1584 : (Jvm.Cond.fieldLink "KioskReelModel" (156 : Nat) "KioskReelModel" "done" "J") ∈ lw_all := lw_g (lw_at lw_m7 102 rfl) rfl
theorem q1585 : (Jvm.Cond.laysFinal "KioskReelModel" "KioskReelModel" "many" "[I") ∈ lw_all := lw_g (lw_at lw_m7 103 rfl) rfl
theorem q1586 : (Jvm.Cond.soleField "KioskReelModel" "many") ∈ lw_all := lw_g (lw_at lw_m7 104 rfl) rfl
theorem q1587 : (Jvm.Cond.laysFinal "KioskReelModel" "KioskReelModel" "kind" "[I") ∈ lw_all := lw_g (lw_at lw_m7 105 rfl) rfl
theorem q1588 : (Jvm.Cond.soleField "KioskReelModel" "kind") ∈ lw_all := lw_g (lw_at lw_m7 106 rfl) rfl
theorem q1589 : (Jvm.Cond.laysFinal "KioskReelModel" "KioskReelModel" "number" "[I") ∈ lw_all := lw_g (lw_at lw_m7 107 rfl) rfl
theorem q1590 : (Jvm.Cond.soleField "KioskReelModel" "number") ∈ lw_all := lw_g (lw_at lw_m7 108 rfl) rfl
theorem q1591 : (Jvm.Cond.laysFinal "KioskReelModel" "KioskReelModel" "pileMany" "[I") ∈ lw_all := lw_g (lw_at lw_m7 109 rfl) rfl
theorem q1592 : (Jvm.Cond.soleField "KioskReelModel" "pileMany") ∈ lw_all := lw_g (lw_at lw_m7 110 rfl) rfl
theorem q1593 : (Jvm.Cond.laysFinal "KioskReelModel" "KioskReelModel" "pileKind" "[I") ∈ lw_all := lw_g (lw_at lw_m7 111 rfl) rfl
theorem q1594 : (Jvm.Cond.soleField "KioskReelModel" "pileKind") ∈ lw_all := lw_g (lw_at lw_m7 112 rfl) rfl
theorem q1595 : (Jvm.Cond.laysFinal "KioskReelModel" "KioskReelModel" "pileNumber" "[I") ∈ lw_all := lw_g (lw_at lw_m7 113 rfl) rfl
theorem q1596 : (Jvm.Cond.soleField "KioskReelModel" "pileNumber") ∈ lw_all := lw_g (lw_at lw_m7 114 rfl) rfl
theorem q1597 : (Jvm.Cond.laysFinal "KioskReelModel" "KioskReelModel" "pileList" "[I") ∈ lw_all := lw_g (lw_at lw_m7 115 rfl) rfl
theorem q1598 : (Jvm.Cond.soleField "KioskReelModel" "pileList") ∈ lw_all := lw_g (lw_at lw_m7 116 rfl) rfl
theorem q1599 : (Jvm.Cond.laysFinal "KioskReelModel" "KioskReelModel" "pileNext" "[I") ∈ lw_all := lw_g (lw_at lw_m7 117 rfl) rfl
theorem q1600 : (Jvm.Cond.soleField "KioskReelModel" "pileNext") ∈ lw_all := lw_g (lw_at lw_m7 118 rfl) rfl
theorem q1601 : (Jvm.Cond.laysFinal "KioskReelModel" "KioskReelModel" "hasPlayer" "[Z") ∈ lw_all := lw_g (lw_at lw_m7 119 rfl) rfl
theorem q1602 : (Jvm.Cond.soleField "KioskReelModel" "hasPlayer") ∈ lw_all := lw_g (lw_at lw_m7 120 rfl) rfl
theorem q1603 : (Jvm.Cond.laysFinal "KioskReelModel" "KioskReelModel" "isFrozen" "[Z") ∈ lw_all := lw_g (lw_at lw_m7 121 rfl) rfl
theorem q1604 : (Jvm.Cond.soleField "KioskReelModel" "isFrozen") ∈ lw_all := lw_g (lw_at lw_m7 122 rfl) rfl
theorem q1605 : (Jvm.Cond.laysFinal "KioskReelModel" "KioskReelModel" "isOut" "[Z") ∈ lw_all := lw_g (lw_at lw_m7 123 rfl) rfl
theorem q1606 : (Jvm.Cond.soleField "KioskReelModel" "isOut") ∈ lw_all := lw_g (lw_at lw_m7 124 rfl) rfl
theorem q1607 : (Jvm.Cond.laysFinal "KioskReelModel" "KioskReelModel" "depth" "[I") ∈ lw_all := lw_g (lw_at lw_m7 125 rfl) rfl
theorem q1608 : (Jvm.Cond.soleField "KioskReelModel" "depth") ∈ lw_all := lw_g (lw_at lw_m7 126 rfl) rfl
theorem q1609 : (Jvm.Cond.laysFinal "KioskReelModel" "KioskReelModel" "at" "[I") ∈ lw_all := lw_g (lw_at lw_m7 127 rfl) rfl
theorem q1610 : (Jvm.Cond.soleField "KioskReelModel" "at") ∈ lw_all := lw_g (lw_at lw_m7 128 rfl) rfl
theorem q1611 : (Jvm.Cond.laysFinal "KioskReelModel" "KioskReelModel" "counts" "[I") ∈ lw_all := lw_g (lw_at lw_m7 129 rfl) rfl
theorem q1612 : (Jvm.Cond.soleField "KioskReelModel" "counts") ∈ lw_all := lw_g (lw_at lw_m7 130 rfl) rfl
theorem q1613 : (Jvm.Cond.laysFinal "KioskReelModel" "KioskReelModel" "ticks" "[I") ∈ lw_all := lw_g (lw_at lw_m7 131 rfl) rfl
theorem q1614 : (Jvm.Cond.soleField "KioskReelModel" "ticks") ∈ lw_all := lw_g (lw_at lw_m7 132 rfl) rfl
theorem q1615 : (Jvm.Cond.laysFinal "KioskReelModel" "KioskReelModel" "wanted" "[I") ∈ lw_all := lw_g (lw_at lw_m7 133 rfl) rfl
theorem q1616 : (Jvm.Cond.soleField "KioskReelModel" "wanted") ∈ lw_all := lw_g (lw_at lw_m7 134 rfl) rfl
theorem q1617 : (Jvm.Cond.laysFinal "KioskReelModel" "KioskReelModel" "frozenFor" "[I") ∈ lw_all := lw_g (lw_at lw_m7 135 rfl) rfl
theorem q1618 : (Jvm.Cond.soleField "KioskReelModel" "frozenFor") ∈ lw_all := lw_g (lw_at lw_m7 136 rfl) rfl
theorem q1619 : (Jvm.Cond.laysFinal "KioskReelModel" "KioskReelModel" "slide" "[I") ∈ lw_all := lw_g (lw_at lw_m7 137 rfl) rfl
theorem q1620 : (Jvm.Cond.soleField "KioskReelModel" "slide") ∈ lw_all := lw_g (lw_at lw_m7 138 rfl) rfl
theorem q1621 : (Jvm.Cond.laysFinal "KioskReelModel" "KioskReelModel" "playing" "[I") ∈ lw_all := lw_g (lw_at lw_m7 139 rfl) rfl
theorem q1622 : (Jvm.Cond.soleField "KioskReelModel" "playing") ∈ lw_all := lw_g (lw_at lw_m7 140 rfl) rfl
theorem q1623 : (Jvm.Cond.laysFinal "KioskReelModel" "KioskReelModel" "playingMany" "[I") ∈ lw_all := lw_g (lw_at lw_m7 141 rfl) rfl
theorem q1624 : (Jvm.Cond.soleField "KioskReelModel" "playingMany") ∈ lw_all := lw_g (lw_at lw_m7 142 rfl) rfl
theorem q1625 : (Jvm.Cond.laysFinal "KioskReelModel" "KioskReelModel" "holder" "[I") ∈ lw_all := lw_g (lw_at lw_m7 143 rfl) rfl
theorem q1626 : (Jvm.Cond.soleField "KioskReelModel" "holder") ∈ lw_all := lw_g (lw_at lw_m7 144 rfl) rfl
theorem q1627 : (Jvm.Cond.laysFinal "KioskReelModel" "KioskReelModel" "queue" "[I") ∈ lw_all := lw_g (lw_at lw_m7 145 rfl) rfl
theorem q1628 : (Jvm.Cond.soleField "KioskReelModel" "queue") ∈ lw_all := lw_g (lw_at lw_m7 146 rfl) rfl
theorem q1629 : (Jvm.Cond.laysFinal "KioskReelModel" "KioskReelModel" "queueMany" "[I") ∈ lw_all := lw_g (lw_at lw_m7 147 rfl) rfl
theorem q1630 : (Jvm.Cond.soleField "KioskReelModel" "queueMany") ∈ lw_all := lw_g (lw_at lw_m7 148 rfl) rfl
theorem q1631 : (Jvm.Cond.laysFinal "KioskReelModel" "KioskReelModel" "saw" "[I") ∈ lw_all := lw_g (lw_at lw_m7 149 rfl) rfl
theorem q1632 : (Jvm.Cond.soleField "KioskReelModel" "saw") ∈ lw_all := lw_g (lw_at lw_m7 150 rfl) rfl
theorem q1633 : (Jvm.Cond.laysFinal "KioskReelModel" "KioskReelModel" "place" "[I") ∈ lw_all := lw_g (lw_at lw_m7 151 rfl) rfl
theorem q1634 : (Jvm.Cond.soleField "KioskReelModel" "place") ∈ lw_all := lw_g (lw_at lw_m7 152 rfl) rfl
theorem q1635 : (Jvm.Cond.laysFinal "KioskReelModel" "KioskReelModel" "asked" "[Z") ∈ lw_all := lw_g (lw_at lw_m7 153 rfl) rfl
theorem q1636 : (Jvm.Cond.soleField "KioskReelModel" "asked") ∈ lw_all := lw_g (lw_at lw_m7 154 rfl) rfl
theorem q1637 : (Jvm.Cond.lays "KioskReelModel" "KioskReelModel" "lists" "I") ∈ lw_all := lw_g (lw_at lw_m7 155 rfl) rfl
theorem q1638 : (Jvm.Cond.soleField "KioskReelModel" "lists") ∈ lw_all := lw_g (lw_at lw_m7 156 rfl) rfl
theorem q1639 : (Jvm.Cond.lays "KioskReelModel" "KioskReelModel" "kiosks" "I") ∈ lw_all := lw_g (lw_at lw_m7 157 rfl) rfl
theorem q1640 : (Jvm.Cond.soleField "KioskReelModel" "kiosks") ∈ lw_all := lw_g (lw_at lw_m7 158 rfl) rfl
theorem q1641 : (Jvm.Cond.lays "KioskReelModel" "KioskReelModel" "visitors" "I") ∈ lw_all := lw_g (lw_at lw_m7 159 rfl) rfl
theorem q1642 : (Jvm.Cond.soleField "KioskReelModel" "visitors") ∈ lw_all := lw_g (lw_at lw_m7 160 rfl) rfl
theorem q1643 : (Jvm.Cond.lays "KioskReelModel" "KioskReelModel" "shown" "I") ∈ lw_all := lw_g (lw_at lw_m7 161 rfl) rfl
theorem q1644 : (Jvm.Cond.soleField "KioskReelModel" "shown") ∈ lw_all := lw_g (lw_at lw_m7 162 rfl) rfl
theorem q1645 : (Jvm.Cond.lays "KioskReelModel" "KioskReelModel" "thrown" "I") ∈ lw_all := lw_g (lw_at lw_m7 163 rfl) rfl
theorem q1646 : (Jvm.Cond.soleField "KioskReelModel" "thrown") ∈ lw_all := lw_g (lw_at lw_m7 164 rfl) rfl
theorem q1647 : (Jvm.Cond.lays "KioskReelModel" "KioskReelModel" "done" "J") ∈ lw_all := lw_g (lw_at lw_m7 165 rfl) rfl
theorem q1648 : (Jvm.Cond.soleField "KioskReelModel" "done") ∈ lw_all := lw_g (lw_at lw_m7 166 rfl) rfl
theorem q1649 : (Jvm.Cond.superclass "KioskReelModel" "java/lang/Object") ∈ lw_all := lw_g (lw_at lw_m7 167 rfl) rfl
theorem q1651 : (Jvm.Cond.instanceMethod ({ cls := "KioskReelModel", name := "thrown", desc := "()I" } : Jvm.MethodName)) ∈ lw_all := lw_g (lw_at lw_m7 169 rfl) rfl
theorem q1652 : (Jvm.Cond.selects "KioskReelModel" ({ cls := "KioskReelModel", name := "thrown", desc := "()I" } : Jvm.MethodName) ({ cls := "KioskReelModel", name := "thrown", desc := "()I" } : Jvm.MethodName)) ∈ lw_all := lw_g (lw_at lw_m7 170 rfl) rfl
theorem q1653 : (Jvm.Cond.code ({ cls := "KioskReelModel", name := "thrown", desc := "()I" } : Jvm.MethodName) prog_21_method_2_code (1 : Nat) (Option.some Jvm.ClassFile.FieldType.int)) ∈ lw_all := lw_g (lw_at lw_m7 171 rfl) rfl
theorem q1655 : (Jvm.Cond.instanceMethod ({ cls := "KioskReelModel", name := "list", desc := "()I" } : Jvm.MethodName)) ∈ lw_all := lw_g (lw_at lw_m7 173 rfl) rfl
theorem q1656 : (Jvm.Cond.selects "KioskReelModel" ({ cls := "KioskReelModel", name := "list", desc := "()I" } : Jvm.MethodName) ({ cls := "KioskReelModel", name := "list", desc := "()I" } : Jvm.MethodName)) ∈ lw_all := lw_g (lw_at lw_m7 174 rfl) rfl
theorem q1657 : (Jvm.Cond.code ({ cls := "KioskReelModel", name := "list", desc := "()I" } : Jvm.MethodName) prog_21_method_8_code (1 : Nat) (Option.some Jvm.ClassFile.FieldType.int)) ∈ lw_all := lw_g (lw_at lw_m7 175 rfl) rfl
theorem q1658 : (Jvm.Cond.methodLink "KioskReelModel" (103 : Nat) ({ cls := "KioskReelModel", name := "isThrown", desc := "(ZI)Z" } : Jvm.MethodName)) ∈ lw_all := lw_g (lw_at lw_m7 176 rfl) rfl
theorem q1659 : (Jvm.Cond.privateMethod ({ cls := "KioskReelModel", name := "isThrown", desc := "(ZI)Z" } : Jvm.MethodName)) ∈ lw_tbl := lw_at lw_m7 177 rfl
theorem q1660 : (Jvm.Cond.instanceMethod ({ cls := "KioskReelModel", name := "isThrown", desc := "(ZI)Z" } : Jvm.MethodName)) ∈ lw_all := lw_g (lw_at lw_m7 178 rfl) rfl
theorem q1661 : (Jvm.Cond.code ({ cls := "KioskReelModel", name := "isThrown", desc := "(ZI)Z" } : Jvm.MethodName) prog_21_method_4_code (3 : Nat) (Option.some Jvm.ClassFile.FieldType.boolean)) ∈ lw_all := lw_g (lw_at lw_m7 179 rfl) rfl
theorem q1663 : (Jvm.Cond.instanceMethod ({ cls := "KioskReelModel", name := "line", desc := "(IICI)I" } : Jvm.MethodName)) ∈ lw_all := lw_g (lw_at lw_m7 181 rfl) rfl
theorem q1664 : (Jvm.Cond.selects "KioskReelModel" ({ cls := "KioskReelModel", name := "line", desc := "(IICI)I" } : Jvm.MethodName) ({ cls := "KioskReelModel", name := "line", desc := "(IICI)I" } : Jvm.MethodName)) ∈ lw_all := lw_g (lw_at lw_m7 182 rfl) rfl
theorem q1665 : (Jvm.Cond.code ({ cls := "KioskReelModel", name := "line", desc := "(IICI)I" } : Jvm.MethodName) prog_21_method_11_code (6 : Nat) (Option.some Jvm.ClassFile.FieldType.int)) ∈ lw_all := lw_g (lw_at lw_m7 183 rfl) rfl
theorem q1666 : (Jvm.Cond.methodLink "KioskReelModel" (107 : Nat) ({ cls := "KioskReelModel", name := "isList", desc := "(I)Z" } : Jvm.MethodName)) ∈ lw_all := lw_g (lw_at lw_m7 184 rfl) rfl
theorem q1667 : (Jvm.Cond.privateMethod ({ cls := "KioskReelModel", name := "isList", desc := "(I)Z" } : Jvm.MethodName)) ∈ lw_tbl := lw_at lw_m7 185 rfl
theorem q1668 : (Jvm.Cond.instanceMethod ({ cls := "KioskReelModel", name := "isList", desc := "(I)Z" } : Jvm.MethodName)) ∈ lw_all := lw_g (lw_at lw_m7 186 rfl) rfl
theorem q1669 : (Jvm.Cond.code ({ cls := "KioskReelModel", name := "isList", desc := "(I)Z" } : Jvm.MethodName) prog_21_method_6_code (2 : Nat) (Option.some Jvm.ClassFile.FieldType.boolean)) ∈ lw_all := lw_g (lw_at lw_m7 187 rfl) rfl
theorem q1670 : (Jvm.Cond.methodLink "KioskReelModel" (96 : Nat) ({ cls := "KioskReelModel", name := "isIn", desc := "(III)Z" } : Jvm.MethodName)) ∈ lw_all := lw_g (lw_at lw_m7 188 rfl) rfl
theorem q1671 : (Jvm.Cond.static ({ cls := "KioskReelModel", name := "isIn", desc := "(III)Z" } : Jvm.MethodName)) ∈ lw_all := lw_g (lw_at lw_m7 189 rfl) rfl
theorem q1672 : (Jvm.Cond.code ({ cls := "KioskReelModel", name := "isIn", desc := "(III)Z" } : Jvm.MethodName) prog_21_method_3_code (3 : Nat) (Option.some Jvm.ClassFile.FieldType.boolean)) ∈ lw_all := lw_g (lw_at lw_m7 190 rfl) rfl
theorem q1673 : (Jvm.Cond.methodLink "KioskReelModel" (111 : Nat) ({ cls := "KioskReelModel", name := "isKind", desc := "(C)Z" } : Jvm.MethodName)) ∈ lw_all := lw_g (lw_at lw_m7 191 rfl) rfl
theorem q1674 : (Jvm.Cond.static ({ cls := "KioskReelModel", name := "isKind", desc := "(C)Z" } : Jvm.MethodName)) ∈ lw_all := lw_g (lw_at lw_m7 192 rfl) rfl
theorem q1675 : (Jvm.Cond.code ({ cls := "KioskReelModel", name := "isKind", desc := "(C)Z" } : Jvm.MethodName) prog_21_method_9_code (1 : Nat) (Option.some Jvm.ClassFile.FieldType.boolean)) ∈ lw_all := lw_g (lw_at lw_m7 193 rfl) rfl
theorem q1676 : (Jvm.Cond.methodLink "KioskReelModel" (115 : Nat) ({ cls := "KioskReelModel", name := "isNumber", desc := "(CI)Z" } : Jvm.MethodName)) ∈ lw_all := lw_g (lw_at lw_m7 194 rfl) rfl
theorem q1677 : (Jvm.Cond.static ({ cls := "KioskReelModel", name := "isNumber", desc := "(CI)Z" } : Jvm.MethodName)) ∈ lw_all := lw_g (lw_at lw_m7 195 rfl) rfl
theorem q1678 : (Jvm.Cond.code ({ cls := "KioskReelModel", name := "isNumber", desc := "(CI)Z" } : Jvm.MethodName) prog_21_method_10_code (4 : Nat) (Option.some Jvm.ClassFile.FieldType.boolean)) ∈ lw_all := lw_g (lw_at lw_m7 196 rfl) rfl
theorem q1680 : (Jvm.Cond.instanceMethod ({ cls := "KioskReelModel", name := "cut", desc := "(II)C" } : Jvm.MethodName)) ∈ lw_all := lw_g (lw_at lw_m7 198 rfl) rfl
theorem q1681 : (Jvm.Cond.selects "KioskReelModel" ({ cls := "KioskReelModel", name := "cut", desc := "(II)C" } : Jvm.MethodName) ({ cls := "KioskReelModel", name := "cut", desc := "(II)C" } : Jvm.MethodName)) ∈ lw_all := lw_g (lw_at lw_m7 199 rfl) rfl
theorem q1682 : (Jvm.Cond.code ({ cls := "KioskReelModel", name := "cut", desc := "(II)C" } : Jvm.MethodName) prog_21_method_12_code (5 : Nat) (Option.some Jvm.ClassFile.FieldType.char)) ∈ lw_all := lw_g (lw_at lw_m7 200 rfl) rfl
theorem q1684 : (Jvm.Cond.instanceMethod ({ cls := "KioskReelModel", name := "lines", desc := "(IC)I" } : Jvm.MethodName)) ∈ lw_all := lw_g (lw_at lw_m7 202 rfl) rfl
theorem q1685 : (Jvm.Cond.selects "KioskReelModel" ({ cls := "KioskReelModel", name := "lines", desc := "(IC)I" } : Jvm.MethodName) ({ cls := "KioskReelModel", name := "lines", desc := "(IC)I" } : Jvm.MethodName)) ∈ lw_all := lw_g (lw_at lw_m7 203 rfl) rfl
theorem q1686 : (Jvm.Cond.code ({ cls := "KioskReelModel", name := "lines", desc := "(IC)I" } : Jvm.MethodName) prog_21_method_13_code (5 : Nat) (Option.some Jvm.ClassFile.FieldType.int)) ∈ lw_all := lw_g (lw_at lw_m7 204 rfl) rfl
theorem q1688 : (Jvm.Cond.instanceMethod ({ cls := "KioskReelModel", name := "kiosk", desc := "()I" } : Jvm.MethodName)) ∈ lw_all := lw_g (lw_at lw_m7 206 rfl) rfl
theorem q1689 : (Jvm.Cond.selects "KioskReelModel" ({ cls := "KioskReelModel", name := "kiosk", desc := "()I" } : Jvm.MethodName) ({ cls := "KioskReelModel", name := "kiosk", desc := "()I" } : Jvm.MethodName)) ∈ lw_all := lw_g (lw_at lw_m7 207 rfl) rfl
theorem q1690 : (Jvm.Cond.code ({ cls := "KioskReelModel", name := "kiosk", desc := "()I" } : Jvm.MethodName) prog_21_method_15_code (1 : Nat) (Option.some Jvm.ClassFile.FieldType.int)) ∈ lw_all := lw_g (lw_at lw_m7 208 rfl) rfl
theorem q1692 : (Jvm.Cond.instanceMethod ({ cls := "KioskReelModel", name := "start", desc := "(II)I" } : Jvm.MethodName)) ∈ lw_all := lw_g (lw_at lw_m7 210 rfl) rfl
theorem q1693 : (Jvm.Cond.selects "KioskReelModel" ({ cls := "KioskReelModel", name := "start", desc := "(II)I" } : Jvm.MethodName) ({ cls := "KioskReelModel", name := "start", desc := "(II)I" } : Jvm.MethodName)) ∈ lw_all := lw_g (lw_at lw_m7 211 rfl) rfl
theorem q1694 : (Jvm.Cond.code ({ cls := "KioskReelModel", name := "start", desc := "(II)I" } : Jvm.MethodName) prog_21_method_19_code (3 : Nat) (Option.some Jvm.ClassFile.FieldType.int)) ∈ lw_all := lw_g (lw_at lw_m7 212 rfl) rfl
theorem q1695 : (Jvm.Cond.methodLink "KioskReelModel" (123 : Nat) ({ cls := "KioskReelModel", name := "isKiosk", desc := "(I)Z" } : Jvm.MethodName)) ∈ lw_all := lw_g (lw_at lw_m7 213 rfl) rfl
theorem q1696 : (Jvm.Cond.privateMethod ({ cls := "KioskReelModel", name := "isKiosk", desc := "(I)Z" } : Jvm.MethodName)) ∈ lw_tbl := lw_at lw_m7 214 rfl
theorem q1697 : (Jvm.Cond.instanceMethod ({ cls := "KioskReelModel", name := "isKiosk", desc := "(I)Z" } : Jvm.MethodName)) ∈ lw_all := lw_g (lw_at lw_m7 215 rfl) rfl
theorem q1698 : (Jvm.Cond.code ({ cls := "KioskReelModel", name := "isKiosk", desc := "(I)Z" } : Jvm.MethodName) prog_21_method_7_code (2 : Nat) (Option.some Jvm.ClassFile.FieldType.boolean)) ∈ lw_all := lw_g (lw_at lw_m7 216 rfl) rfl
theorem q1699 : (Jvm.Cond.methodLink "KioskReelModel" (126 : Nat) ({ cls := "KioskReelModel", name := "copies", desc := "(II)V" } : Jvm.MethodName)) ∈ lw_all := lw_g (lw_at lw_m7 217 rfl) rfl
theorem q1700 : (Jvm.Cond.privateMethod ({ cls := "KioskReelModel", name := "copies", desc := "(II)V" } : Jvm.MethodName)) ∈ lw_tbl := lw_at lw_m7 218 rfl
theorem q1701 : (Jvm.Cond.instanceMethod ({ cls := "KioskReelModel", name := "copies", desc := "(II)V" } : Jvm.MethodName)) ∈ lw_all := lw_g (lw_at lw_m7 219 rfl) rfl
theorem q1702 : (Jvm.Cond.code ({ cls := "KioskReelModel", name := "copies", desc := "(II)V" } : Jvm.MethodName) prog_21_method_14_code (4 : Nat) (Option.none : Option Jvm.ClassFile.FieldType)) ∈ lw_all := lw_g (lw_at lw_m7 220 rfl) rfl
theorem q1703 : (Jvm.Cond.methodLink "KioskReelModel" (130 : Nat) ({ cls := "KioskReelModel", name := "nearest", desc := "(I)I" } : Jvm.MethodName)) ∈ lw_all := lw_g (lw_at lw_m7 221 rfl) rfl
theorem q1704 : (Jvm.Cond.privateMethod ({ cls := "KioskReelModel", name := "nearest", desc := "(I)I" } : Jvm.MethodName)) ∈ lw_tbl := lw_at lw_m7 222 rfl
theorem q1705 : (Jvm.Cond.instanceMethod ({ cls := "KioskReelModel", name := "nearest", desc := "(I)I" } : Jvm.MethodName)) ∈ lw_all := lw_g (lw_at lw_m7 223 rfl) rfl
theorem q1706 : (Jvm.Cond.code ({ cls := "KioskReelModel", name := "nearest", desc := "(I)I" } : Jvm.MethodName) prog_21_method_16_code (4 : Nat) (Option.some Jvm.ClassFile.FieldType.int)) ∈ lw_all := lw_g (lw_at lw_m7 224 rfl) rfl
theorem q1707 : (Jvm.Cond.methodLink "KioskReelModel" (119 : Nat) ({ cls := "KioskReelModel", name := "apart", desc := "(II)I" } : Jvm.MethodName)) ∈ lw_all := lw_g (lw_at lw_m7 225 rfl) rfl
theorem q1708 : (Jvm.Cond.static ({ cls := "KioskReelModel", name := "apart", desc := "(II)I" } : Jvm.MethodName)) ∈ lw_all := lw_g (lw_at lw_m7 226 rfl) rfl
theorem q1709 : (Jvm.Cond.code ({ cls := "KioskReelModel", name := "apart", desc := "(II)I" } : Jvm.MethodName) prog_21_method_5_code (2 : Nat) (Option.some Jvm.ClassFile.FieldType.int)) ∈ lw_all := lw_g (lw_at lw_m7 227 rfl) rfl
theorem q1710 : (Jvm.Cond.methodLink "KioskReelModel" (134 : Nat) ({ cls := "KioskReelModel", name := "comesTo", desc := "(II)V" } : Jvm.MethodName)) ∈ lw_all := lw_g (lw_at lw_m7 228 rfl) rfl
theorem q1711 : (Jvm.Cond.privateMethod ({ cls := "KioskReelModel", name := "comesTo", desc := "(II)V" } : Jvm.MethodName)) ∈ lw_tbl := lw_at lw_m7 229 rfl
theorem q1712 : (Jvm.Cond.instanceMethod ({ cls := "KioskReelModel", name := "comesTo", desc := "(II)V" } : Jvm.MethodName)) ∈ lw_all := lw_g (lw_at lw_m7 230 rfl) rfl
theorem q1713 : (Jvm.Cond.code ({ cls := "KioskReelModel", name := "comesTo", desc := "(II)V" } : Jvm.MethodName) prog_21_method_17_code (4 : Nat) (Option.none : Option Jvm.ClassFile.FieldType)) ∈ lw_all := lw_g (lw_at lw_m7 231 rfl) rfl
theorem q1715 : (Jvm.Cond.instanceMethod ({ cls := "KioskReelModel", name := "stop", desc := "(I)I" } : Jvm.MethodName)) ∈ lw_all := lw_g (lw_at lw_m7 233 rfl) rfl
theorem q1716 : (Jvm.Cond.selects "KioskReelModel" ({ cls := "KioskReelModel", name := "stop", desc := "(I)I" } : Jvm.MethodName) ({ cls := "KioskReelModel", name := "stop", desc := "(I)I" } : Jvm.MethodName)) ∈ lw_all := lw_g (lw_at lw_m7 234 rfl) rfl
theorem q1717 : (Jvm.Cond.code ({ cls := "KioskReelModel", name := "stop", desc := "(I)I" } : Jvm.MethodName) prog_21_method_24_code (6 : Nat) (Option.some Jvm.ClassFile.FieldType.int)) ∈ lw_all := lw_g (lw_at lw_m7 235 rfl) rfl
theorem q1718 : (Jvm.Cond.methodLink "KioskReelModel" (140 : Nat) ({ cls := "KioskReelModel", name := "isNone", desc := "(I)Z" } : Jvm.MethodName)) ∈ lw_all := lw_g (lw_at lw_m7 236 rfl) rfl
theorem q1719 : (Jvm.Cond.privateMethod ({ cls := "KioskReelModel", name := "isNone", desc := "(I)Z" } : Jvm.MethodName)) ∈ lw_tbl := lw_at lw_m7 237 rfl
theorem q1720 : (Jvm.Cond.instanceMethod ({ cls := "KioskReelModel", name := "isNone", desc := "(I)Z" } : Jvm.MethodName)) ∈ lw_all := lw_g (lw_at lw_m7 238 rfl) rfl
theorem q1721 : (Jvm.Cond.code ({ cls := "KioskReelModel", name := "isNone", desc := "(I)Z" } : Jvm.MethodName) prog_21_method_20_code (2 : Nat) (Option.some Jvm.ClassFile.FieldType.boolean)) ∈ lw_all := lw_g (lw_at lw_m7 239 rfl) rfl
theorem q1722 : (Jvm.Cond.methodLink "KioskReelModel" (143 : Nat) ({ cls := "KioskReelModel", name := "held", desc := "(I)I" } : Jvm.MethodName)) ∈ lw_all := lw_g (lw_at lw_m8 0 rfl) rfl
theorem q1723 : (Jvm.Cond.privateMethod ({ cls := "KioskReelModel", name := "held", desc := "(I)I" } : Jvm.MethodName)) ∈ lw_tbl := lw_at lw_m8 1 rfl
theorem q1724 : (Jvm.Cond.instanceMethod ({ cls := "KioskReelModel", name := "held", desc := "(I)I" } : Jvm.MethodName)) ∈ lw_all := lw_g (lw_at lw_m8 2 rfl) rfl
theorem q1725 : (Jvm.Cond.code ({ cls := "KioskReelModel", name := "held", desc := "(I)I" } : Jvm.MethodName) prog_21_method_21_code (4 : Nat) (Option.some Jvm.ClassFile.FieldType.int)) ∈ lw_all := lw_g (lw_at lw_m8 3 rfl) rfl
theorem q1726 : (Jvm.Cond.methodLink "KioskReelModel" (137 : Nat) ({ cls := "KioskReelModel", name := "outOf", desc := "(II)I" } : Jvm.MethodName)) ∈ lw_all := lw_g (lw_at lw_m8 4 rfl) rfl
theorem q1727 : (Jvm.Cond.privateMethod ({ cls := "KioskReelModel", name := "outOf", desc := "(II)I" } : Jvm.MethodName)) ∈ lw_tbl := lw_at lw_m8 5 rfl
theorem q1728 : (Jvm.Cond.instanceMethod ({ cls := "KioskReelModel", name := "outOf", desc := "(II)I" } : Jvm.MethodName)) ∈ lw_all := lw_g (lw_at lw_m8 6 rfl) rfl
theorem q1729 : (Jvm.Cond.code ({ cls := "KioskReelModel", name := "outOf", desc := "(II)I" } : Jvm.MethodName) prog_21_method_22_code (6 : Nat) (Option.some Jvm.ClassFile.FieldType.int)) ∈ lw_all := lw_g (lw_at lw_m8 7 rfl) rfl
theorem q1730 : (Jvm.Cond.methodLink "KioskReelModel" (146 : Nat) ({ cls := "KioskReelModel", name := "frees", desc := "(I)V" } : Jvm.MethodName)) ∈ lw_all := lw_g (lw_at lw_m8 8 rfl) rfl
theorem q1731 : (Jvm.Cond.privateMethod ({ cls := "KioskReelModel", name := "frees", desc := "(I)V" } : Jvm.MethodName)) ∈ lw_tbl := lw_at lw_m8 9 rfl
theorem q1732 : (Jvm.Cond.instanceMethod ({ cls := "KioskReelModel", name := "frees", desc := "(I)V" } : Jvm.MethodName)) ∈ lw_all := lw_g (lw_at lw_m8 10 rfl) rfl
theorem q1733 : (Jvm.Cond.code ({ cls := "KioskReelModel", name := "frees", desc := "(I)V" } : Jvm.MethodName) prog_21_method_23_code (2 : Nat) (Option.none : Option Jvm.ClassFile.FieldType)) ∈ lw_all := lw_g (lw_at lw_m8 11 rfl) rfl
theorem q1734 : (Jvm.Cond.methodLink "KioskReelModel" (150 : Nat) ({ cls := "KioskReelModel", name := "leaves", desc := "(I)V" } : Jvm.MethodName)) ∈ lw_all := lw_g (lw_at lw_m8 12 rfl) rfl
theorem q1735 : (Jvm.Cond.privateMethod ({ cls := "KioskReelModel", name := "leaves", desc := "(I)V" } : Jvm.MethodName)) ∈ lw_tbl := lw_at lw_m8 13 rfl
theorem q1736 : (Jvm.Cond.instanceMethod ({ cls := "KioskReelModel", name := "leaves", desc := "(I)V" } : Jvm.MethodName)) ∈ lw_all := lw_g (lw_at lw_m8 14 rfl) rfl
theorem q1737 : (Jvm.Cond.code ({ cls := "KioskReelModel", name := "leaves", desc := "(I)V" } : Jvm.MethodName) prog_21_method_18_code (4 : Nat) (Option.none : Option Jvm.ClassFile.FieldType)) ∈ lw_all := lw_g (lw_at lw_m8 15 rfl) rfl
theorem q1739 : (Jvm.Cond.instanceMethod ({ cls := "KioskReelModel", name := "freeze", desc := "(I)Z" } : Jvm.MethodName)) ∈ lw_all := lw_g (lw_at lw_m8 17 rfl) rfl
theorem q1740 : (Jvm.Cond.selects "KioskReelModel" ({ cls := "KioskReelModel", name := "freeze", desc := "(I)Z" } : Jvm.MethodName) ({ cls := "KioskReelModel", name := "freeze", desc := "(I)Z" } : Jvm.MethodName)) ∈ lw_all := lw_g (lw_at lw_m8 18 rfl) rfl
theorem q1741 : (Jvm.Cond.code ({ cls := "KioskReelModel", name := "freeze", desc := "(I)Z" } : Jvm.MethodName) prog_21_method_25_code (3 : Nat) (Option.some Jvm.ClassFile.FieldType.boolean)) ∈ lw_all := lw_g (lw_at lw_m8 19 rfl) rfl
theorem q1743 : (Jvm.Cond.instanceMethod ({ cls := "KioskReelModel", name := "thaw", desc := "(I)I" } : Jvm.MethodName)) ∈ lw_all := lw_g (lw_at lw_m8 21 rfl) rfl
theorem q1744 : (Jvm.Cond.selects "KioskReelModel" ({ cls := "KioskReelModel", name := "thaw", desc := "(I)I" } : Jvm.MethodName) ({ cls := "KioskReelModel", name := "thaw", desc := "(I)I" } : Jvm.MethodName)) ∈ lw_all := lw_g (lw_at lw_m8 22 rfl) rfl
theorem q1745 : (Jvm.Cond.code ({ cls := "KioskReelModel", name := "thaw", desc := "(I)I" } : Jvm.MethodName) prog_21_method_26_code (5 : Nat) (Option.some Jvm.ClassFile.FieldType.int)) ∈ lw_all := lw_g (lw_at lw_m8 23 rfl) rfl
theorem q1747 : (Jvm.Cond.instanceMethod ({ cls := "KioskReelModel", name := "state", desc := "(I)C" } : Jvm.MethodName)) ∈ lw_all := lw_g (lw_at lw_m8 25 rfl) rfl
theorem q1748 : (Jvm.Cond.selects "KioskReelModel" ({ cls := "KioskReelModel", name := "state", desc := "(I)C" } : Jvm.MethodName) ({ cls := "KioskReelModel", name := "state", desc := "(I)C" } : Jvm.MethodName)) ∈ lw_all := lw_g (lw_at lw_m8 26 rfl) rfl
theorem q1749 : (Jvm.Cond.code ({ cls := "KioskReelModel", name := "state", desc := "(I)C" } : Jvm.MethodName) prog_21_method_27_code (2 : Nat) (Option.some Jvm.ClassFile.FieldType.char)) ∈ lw_all := lw_g (lw_at lw_m8 27 rfl) rfl
theorem q1751 : (Jvm.Cond.instanceMethod ({ cls := "KioskReelModel", name := "plays", desc := "(I)I" } : Jvm.MethodName)) ∈ lw_all := lw_g (lw_at lw_m8 29 rfl) rfl
theorem q1752 : (Jvm.Cond.selects "KioskReelModel" ({ cls := "KioskReelModel", name := "plays", desc := "(I)I" } : Jvm.MethodName) ({ cls := "KioskReelModel", name := "plays", desc := "(I)I" } : Jvm.MethodName)) ∈ lw_all := lw_g (lw_at lw_m8 30 rfl) rfl
theorem q1753 : (Jvm.Cond.code ({ cls := "KioskReelModel", name := "plays", desc := "(I)I" } : Jvm.MethodName) prog_21_method_28_code (2 : Nat) (Option.some Jvm.ClassFile.FieldType.int)) ∈ lw_all := lw_g (lw_at lw_m8 31 rfl) rfl
theorem q1755 : (Jvm.Cond.instanceMethod ({ cls := "KioskReelModel", name := "playerAt", desc := "(II)I" } : Jvm.MethodName)) ∈ lw_all := lw_g (lw_at lw_m8 33 rfl) rfl
theorem q1756 : (Jvm.Cond.selects "KioskReelModel" ({ cls := "KioskReelModel", name := "playerAt", desc := "(II)I" } : Jvm.MethodName) ({ cls := "KioskReelModel", name := "playerAt", desc := "(II)I" } : Jvm.MethodName)) ∈ lw_all := lw_g (lw_at lw_m8 34 rfl) rfl
theorem q1757 : (Jvm.Cond.code ({ cls := "KioskReelModel", name := "playerAt", desc := "(II)I" } : Jvm.MethodName) prog_21_method_29_code (3 : Nat) (Option.some Jvm.ClassFile.FieldType.int)) ∈ lw_all := lw_g (lw_at lw_m8 35 rfl) rfl
theorem q1759 : (Jvm.Cond.instanceMethod ({ cls := "KioskReelModel", name := "next", desc := "(I)I" } : Jvm.MethodName)) ∈ lw_all := lw_g (lw_at lw_m8 37 rfl) rfl
theorem q1760 : (Jvm.Cond.selects "KioskReelModel" ({ cls := "KioskReelModel", name := "next", desc := "(I)I" } : Jvm.MethodName) ({ cls := "KioskReelModel", name := "next", desc := "(I)I" } : Jvm.MethodName)) ∈ lw_all := lw_g (lw_at lw_m8 38 rfl) rfl
theorem q1761 : (Jvm.Cond.code ({ cls := "KioskReelModel", name := "next", desc := "(I)I" } : Jvm.MethodName) prog_21_method_30_code (2 : Nat) (Option.some Jvm.ClassFile.FieldType.int)) ∈ lw_all := lw_g (lw_at lw_m8 39 rfl) rfl
theorem q1762 : (Jvm.Cond.methodLink "KioskReelModel" (153 : Nat) ({ cls := "KioskReelModel", name := "top", desc := "(I)I" } : Jvm.MethodName)) ∈ lw_all := lw_g (lw_at lw_m8 40 rfl) rfl
theorem q1763 : (Jvm.Cond.privateMethod ({ cls := "KioskReelModel", name := "top", desc := "(I)I" } : Jvm.MethodName)) ∈ lw_tbl := lw_at lw_m8 41 rfl
theorem q1764 : (Jvm.Cond.instanceMethod ({ cls := "KioskReelModel", name := "top", desc := "(I)I" } : Jvm.MethodName)) ∈ lw_all := lw_g (lw_at lw_m8 42 rfl) rfl
theorem q1765 : (Jvm.Cond.code ({ cls := "KioskReelModel", name := "top", desc := "(I)I" } : Jvm.MethodName) prog_21_method_33_code (2 : Nat) (Option.some Jvm.ClassFile.FieldType.int)) ∈ lw_all := lw_g (lw_at lw_m8 43 rfl) rfl
theorem q1767 : (Jvm.Cond.instanceMethod ({ cls := "KioskReelModel", name := "count", desc := "(I)I" } : Jvm.MethodName)) ∈ lw_all := lw_g (lw_at lw_m8 45 rfl) rfl
theorem q1768 : (Jvm.Cond.selects "KioskReelModel" ({ cls := "KioskReelModel", name := "count", desc := "(I)I" } : Jvm.MethodName) ({ cls := "KioskReelModel", name := "count", desc := "(I)I" } : Jvm.MethodName)) ∈ lw_all := lw_g (lw_at lw_m8 46 rfl) rfl
theorem q1769 : (Jvm.Cond.code ({ cls := "KioskReelModel", name := "count", desc := "(I)I" } : Jvm.MethodName) prog_21_method_31_code (2 : Nat) (Option.some Jvm.ClassFile.FieldType.int)) ∈ lw_all := lw_g (lw_at lw_m8 47 rfl) rfl
theorem q1771 : (Jvm.Cond.instanceMethod ({ cls := "KioskReelModel", name := "waits", desc := "(I)I" } : Jvm.MethodName)) ∈ lw_all := lw_g (lw_at lw_m8 49 rfl) rfl
theorem q1772 : (Jvm.Cond.selects "KioskReelModel" ({ cls := "KioskReelModel", name := "waits", desc := "(I)I" } : Jvm.MethodName) ({ cls := "KioskReelModel", name := "waits", desc := "(I)I" } : Jvm.MethodName)) ∈ lw_all := lw_g (lw_at lw_m8 50 rfl) rfl
theorem q1773 : (Jvm.Cond.code ({ cls := "KioskReelModel", name := "waits", desc := "(I)I" } : Jvm.MethodName) prog_21_method_32_code (2 : Nat) (Option.some Jvm.ClassFile.FieldType.int)) ∈ lw_all := lw_g (lw_at lw_m8 51 rfl) rfl
theorem q1775 : (Jvm.Cond.instanceMethod ({ cls := "KioskReelModel", name := "tick", desc := "(I)I" } : Jvm.MethodName)) ∈ lw_all := lw_g (lw_at lw_m8 53 rfl) rfl
theorem q1776 : (Jvm.Cond.selects "KioskReelModel" ({ cls := "KioskReelModel", name := "tick", desc := "(I)I" } : Jvm.MethodName) ({ cls := "KioskReelModel", name := "tick", desc := "(I)I" } : Jvm.MethodName)) ∈ lw_all := lw_g (lw_at lw_m8 54 rfl) rfl
theorem q1777 : (Jvm.Cond.code ({ cls := "KioskReelModel", name := "tick", desc := "(I)I" } : Jvm.MethodName) prog_21_method_41_code (5 : Nat) (Option.some Jvm.ClassFile.FieldType.int)) ∈ lw_all := lw_g (lw_at lw_m8 55 rfl) rfl
theorem q1778 : (Jvm.Cond.methodLink "KioskReelModel" (182 : Nat) ({ cls := "KioskReelModel", name := "turn", desc := "(I)V" } : Jvm.MethodName)) ∈ lw_all := lw_g (lw_at lw_m8 56 rfl) rfl
theorem q1779 : (Jvm.Cond.privateMethod ({ cls := "KioskReelModel", name := "turn", desc := "(I)V" } : Jvm.MethodName)) ∈ lw_tbl := lw_at lw_m8 57 rfl
theorem q1780 : (Jvm.Cond.instanceMethod ({ cls := "KioskReelModel", name := "turn", desc := "(I)V" } : Jvm.MethodName)) ∈ lw_all := lw_g (lw_at lw_m8 58 rfl) rfl
theorem q1781 : (Jvm.Cond.code ({ cls := "KioskReelModel", name := "turn", desc := "(I)V" } : Jvm.MethodName) prog_21_method_34_code (6 : Nat) (Option.none : Option Jvm.ClassFile.FieldType)) ∈ lw_all := lw_g (lw_at lw_m8 59 rfl) rfl
theorem q1782 : (Jvm.Cond.methodLink "KioskReelModel" (160 : Nat) ({ cls := "KioskReelModel", name := "does", desc := "(II)Z" } : Jvm.MethodName)) ∈ lw_all := lw_g (lw_at lw_m8 60 rfl) rfl
theorem q1783 : (Jvm.Cond.privateMethod ({ cls := "KioskReelModel", name := "does", desc := "(II)Z" } : Jvm.MethodName)) ∈ lw_tbl := lw_at lw_m8 61 rfl
theorem q1784 : (Jvm.Cond.instanceMethod ({ cls := "KioskReelModel", name := "does", desc := "(II)Z" } : Jvm.MethodName)) ∈ lw_all := lw_g (lw_at lw_m8 62 rfl) rfl
theorem q1785 : (Jvm.Cond.code ({ cls := "KioskReelModel", name := "does", desc := "(II)Z" } : Jvm.MethodName) prog_21_method_35_code (5 : Nat) (Option.some Jvm.ClassFile.FieldType.boolean)) ∈ lw_all := lw_g (lw_at lw_m8 63 rfl) rfl
theorem q1786 : (Jvm.Cond.methodLink "KioskReelModel" (164 : Nat) ({ cls := "KioskReelModel", name := "shows", desc := "(II)Z" } : Jvm.MethodName)) ∈ lw_all := lw_g (lw_at lw_m8 64 rfl) rfl
theorem q1787 : (Jvm.Cond.privateMethod ({ cls := "KioskReelModel", name := "shows", desc := "(II)Z" } : Jvm.MethodName)) ∈ lw_tbl := lw_at lw_m8 65 rfl
theorem q1788 : (Jvm.Cond.instanceMethod ({ cls := "KioskReelModel", name := "shows", desc := "(II)Z" } : Jvm.MethodName)) ∈ lw_all := lw_g (lw_at lw_m8 66 rfl) rfl
theorem q1789 : (Jvm.Cond.code ({ cls := "KioskReelModel", name := "shows", desc := "(II)Z" } : Jvm.MethodName) prog_21_method_38_code (5 : Nat) (Option.some Jvm.ClassFile.FieldType.boolean)) ∈ lw_all := lw_g (lw_at lw_m8 67 rfl) rfl
theorem q1790 : (Jvm.Cond.methodLink "KioskReelModel" (176 : Nat) ({ cls := "KioskReelModel", name := "sees", desc := "(III)Z" } : Jvm.MethodName)) ∈ lw_all := lw_g (lw_at lw_m8 68 rfl) rfl
theorem q1791 : (Jvm.Cond.privateMethod ({ cls := "KioskReelModel", name := "sees", desc := "(III)Z" } : Jvm.MethodName)) ∈ lw_tbl := lw_at lw_m8 69 rfl
theorem q1792 : (Jvm.Cond.instanceMethod ({ cls := "KioskReelModel", name := "sees", desc := "(III)Z" } : Jvm.MethodName)) ∈ lw_all := lw_g (lw_at lw_m8 70 rfl) rfl
theorem q1793 : (Jvm.Cond.code ({ cls := "KioskReelModel", name := "sees", desc := "(III)Z" } : Jvm.MethodName) prog_21_method_37_code (5 : Nat) (Option.some Jvm.ClassFile.FieldType.boolean)) ∈ lw_all := lw_g (lw_at lw_m8 71 rfl) rfl
theorem q1794 : (Jvm.Cond.methodLink "KioskReelModel" (170 : Nat) ({ cls := "KioskReelModel", name := "present", desc := "(I)I" } : Jvm.MethodName)) ∈ lw_all := lw_g (lw_at lw_m8 72 rfl) rfl
theorem q1795 : (Jvm.Cond.privateMethod ({ cls := "KioskReelModel", name := "present", desc := "(I)I" } : Jvm.MethodName)) ∈ lw_tbl := lw_at lw_m8 73 rfl
theorem q1796 : (Jvm.Cond.instanceMethod ({ cls := "KioskReelModel", name := "present", desc := "(I)I" } : Jvm.MethodName)) ∈ lw_all := lw_g (lw_at lw_m8 74 rfl) rfl
theorem q1797 : (Jvm.Cond.code ({ cls := "KioskReelModel", name := "present", desc := "(I)I" } : Jvm.MethodName) prog_21_method_36_code (4 : Nat) (Option.some Jvm.ClassFile.FieldType.int)) ∈ lw_all := lw_g (lw_at lw_m8 75 rfl) rfl
theorem q1798 : (Jvm.Cond.methodLink "KioskReelModel" (167 : Nat) ({ cls := "KioskReelModel", name := "takes", desc := "(II)Z" } : Jvm.MethodName)) ∈ lw_all := lw_g (lw_at lw_m8 76 rfl) rfl
theorem q1799 : (Jvm.Cond.privateMethod ({ cls := "KioskReelModel", name := "takes", desc := "(II)Z" } : Jvm.MethodName)) ∈ lw_tbl := lw_at lw_m8 77 rfl
theorem q1800 : (Jvm.Cond.instanceMethod ({ cls := "KioskReelModel", name := "takes", desc := "(II)Z" } : Jvm.MethodName)) ∈ lw_all := lw_g (lw_at lw_m8 78 rfl) rfl
theorem q1801 : (Jvm.Cond.code ({ cls := "KioskReelModel", name := "takes", desc := "(II)Z" } : Jvm.MethodName) prog_21_method_39_code (3 : Nat) (Option.some Jvm.ClassFile.FieldType.boolean)) ∈ lw_all := lw_g (lw_at lw_m8 79 rfl) rfl
theorem q1802 : (Jvm.Cond.methodLink "KioskReelModel" (185 : Nat) ({ cls := "KioskReelModel", name := "watches", desc := "()V" } : Jvm.MethodName)) ∈ lw_all := lw_g (lw_at lw_m8 80 rfl) rfl
theorem q1803 : (Jvm.Cond.privateMethod ({ cls := "KioskReelModel", name := "watches", desc := "()V" } : Jvm.MethodName)) ∈ lw_tbl := lw_at lw_m8 81 rfl
theorem q1804 : (Jvm.Cond.instanceMethod ({ cls := "KioskReelModel", name := "watches", desc := "()V" } : Jvm.MethodName)) ∈ lw_all := lw_g (lw_at lw_m8 82 rfl) rfl
theorem q1805 : (Jvm.Cond.code ({ cls := "KioskReelModel", name := "watches", desc := "()V" } : Jvm.MethodName) prog_21_method_40_code (3 : Nat) (Option.none : Option Jvm.ClassFile.FieldType)) ∈ lw_all := lw_g (lw_at lw_m8 83 rfl) rfl
theorem q1807 : (Jvm.Cond.instanceMethod ({ cls := "KioskReelModel", name := "slide", desc := "(I)I" } : Jvm.MethodName)) ∈ lw_all := lw_g (lw_at lw_m8 85 rfl) rfl
theorem q1808 : (Jvm.Cond.selects "KioskReelModel" ({ cls := "KioskReelModel", name := "slide", desc := "(I)I" } : Jvm.MethodName) ({ cls := "KioskReelModel", name := "slide", desc := "(I)I" } : Jvm.MethodName)) ∈ lw_all := lw_g (lw_at lw_m8 86 rfl) rfl
theorem q1809 : (Jvm.Cond.code ({ cls := "KioskReelModel", name := "slide", desc := "(I)I" } : Jvm.MethodName) prog_21_method_42_code (2 : Nat) (Option.some Jvm.ClassFile.FieldType.int)) ∈ lw_all := lw_g (lw_at lw_m8 87 rfl) rfl
theorem q1811 : (Jvm.Cond.instanceMethod ({ cls := "KioskReelModel", name := "holder", desc := "(I)I" } : Jvm.MethodName)) ∈ lw_all := lw_g (lw_at lw_m8 89 rfl) rfl
theorem q1812 : (Jvm.Cond.selects "KioskReelModel" ({ cls := "KioskReelModel", name := "holder", desc := "(I)I" } : Jvm.MethodName) ({ cls := "KioskReelModel", name := "holder", desc := "(I)I" } : Jvm.MethodName)) ∈ lw_all := lw_g (lw_at lw_m8 90 rfl) rfl
theorem q1813 : (Jvm.Cond.code ({ cls := "KioskReelModel", name := "holder", desc := "(I)I" } : Jvm.MethodName) prog_21_method_44_code (2 : Nat) (Option.some Jvm.ClassFile.FieldType.int)) ∈ lw_all := lw_g (lw_at lw_m8 91 rfl) rfl
theorem q1814 : (Jvm.Cond.methodLink "KioskReelModel" (188 : Nat) ({ cls := "KioskReelModel", name := "isDevice", desc := "(I)Z" } : Jvm.MethodName)) ∈ lw_all := lw_g (lw_at lw_m8 92 rfl) rfl
theorem q1815 : (Jvm.Cond.static ({ cls := "KioskReelModel", name := "isDevice", desc := "(I)Z" } : Jvm.MethodName)) ∈ lw_all := lw_g (lw_at lw_m8 93 rfl) rfl
theorem q1816 : (Jvm.Cond.code ({ cls := "KioskReelModel", name := "isDevice", desc := "(I)Z" } : Jvm.MethodName) prog_21_method_43_code (1 : Nat) (Option.some Jvm.ClassFile.FieldType.boolean)) ∈ lw_all := lw_g (lw_at lw_m8 94 rfl) rfl
theorem q1818 : (Jvm.Cond.instanceMethod ({ cls := "KioskReelModel", name := "queued", desc := "(II)I" } : Jvm.MethodName)) ∈ lw_all := lw_g (lw_at lw_m8 96 rfl) rfl
theorem q1819 : (Jvm.Cond.selects "KioskReelModel" ({ cls := "KioskReelModel", name := "queued", desc := "(II)I" } : Jvm.MethodName) ({ cls := "KioskReelModel", name := "queued", desc := "(II)I" } : Jvm.MethodName)) ∈ lw_all := lw_g (lw_at lw_m8 97 rfl) rfl
theorem q1820 : (Jvm.Cond.code ({ cls := "KioskReelModel", name := "queued", desc := "(II)I" } : Jvm.MethodName) prog_21_method_45_code (3 : Nat) (Option.some Jvm.ClassFile.FieldType.int)) ∈ lw_all := lw_g (lw_at lw_m8 98 rfl) rfl
theorem q1822 : (Jvm.Cond.instanceMethod ({ cls := "KioskReelModel", name := "visitor", desc := "()I" } : Jvm.MethodName)) ∈ lw_all := lw_g (lw_at lw_m8 100 rfl) rfl
theorem q1823 : (Jvm.Cond.selects "KioskReelModel" ({ cls := "KioskReelModel", name := "visitor", desc := "()I" } : Jvm.MethodName) ({ cls := "KioskReelModel", name := "visitor", desc := "()I" } : Jvm.MethodName)) ∈ lw_all := lw_g (lw_at lw_m8 101 rfl) rfl
theorem q1824 : (Jvm.Cond.code ({ cls := "KioskReelModel", name := "visitor", desc := "()I" } : Jvm.MethodName) prog_21_method_46_code (1 : Nat) (Option.some Jvm.ClassFile.FieldType.int)) ∈ lw_all := lw_g (lw_at lw_m8 102 rfl) rfl
theorem q1826 : (Jvm.Cond.instanceMethod ({ cls := "KioskReelModel", name := "go", desc := "(II)I" } : Jvm.MethodName)) ∈ lw_all := lw_g (lw_at lw_m8 104 rfl) rfl
theorem q1827 : (Jvm.Cond.selects "KioskReelModel" ({ cls := "KioskReelModel", name := "go", desc := "(II)I" } : Jvm.MethodName) ({ cls := "KioskReelModel", name := "go", desc := "(II)I" } : Jvm.MethodName)) ∈ lw_all := lw_g (lw_at lw_m8 105 rfl) rfl
theorem q1828 : (Jvm.Cond.code ({ cls := "KioskReelModel", name := "go", desc := "(II)I" } : Jvm.MethodName) prog_21_method_48_code (4 : Nat) (Option.some Jvm.ClassFile.FieldType.int)) ∈ lw_all := lw_g (lw_at lw_m8 106 rfl) rfl
theorem q1829 : (Jvm.Cond.methodLink "KioskReelModel" (191 : Nat) ({ cls := "KioskReelModel", name := "isNoVisitor", desc := "(I)Z" } : Jvm.MethodName)) ∈ lw_all := lw_g (lw_at lw_m8 107 rfl) rfl
theorem q1830 : (Jvm.Cond.privateMethod ({ cls := "KioskReelModel", name := "isNoVisitor", desc := "(I)Z" } : Jvm.MethodName)) ∈ lw_tbl := lw_at lw_m8 108 rfl
theorem q1831 : (Jvm.Cond.instanceMethod ({ cls := "KioskReelModel", name := "isNoVisitor", desc := "(I)Z" } : Jvm.MethodName)) ∈ lw_all := lw_g (lw_at lw_m8 109 rfl) rfl
theorem q1832 : (Jvm.Cond.code ({ cls := "KioskReelModel", name := "isNoVisitor", desc := "(I)Z" } : Jvm.MethodName) prog_21_method_47_code (2 : Nat) (Option.some Jvm.ClassFile.FieldType.boolean)) ∈ lw_all := lw_g (lw_at lw_m8 110 rfl) rfl
theorem q1834 : (Jvm.Cond.instanceMethod ({ cls := "KioskReelModel", name := "ask", desc := "(II)Z" } : Jvm.MethodName)) ∈ lw_all := lw_g (lw_at lw_m8 112 rfl) rfl
theorem q1835 : (Jvm.Cond.selects "KioskReelModel" ({ cls := "KioskReelModel", name := "ask", desc := "(II)Z" } : Jvm.MethodName) ({ cls := "KioskReelModel", name := "ask", desc := "(II)Z" } : Jvm.MethodName)) ∈ lw_all := lw_g (lw_at lw_m8 113 rfl) rfl
theorem q1836 : (Jvm.Cond.code ({ cls := "KioskReelModel", name := "ask", desc := "(II)Z" } : Jvm.MethodName) prog_21_method_49_code (3 : Nat) (Option.some Jvm.ClassFile.FieldType.boolean)) ∈ lw_all := lw_g (lw_at lw_m8 114 rfl) rfl
theorem q1838 : (Jvm.Cond.instanceMethod ({ cls := "KioskReelModel", name := "saw", desc := "(II)I" } : Jvm.MethodName)) ∈ lw_all := lw_g (lw_at lw_m8 116 rfl) rfl
theorem q1839 : (Jvm.Cond.selects "KioskReelModel" ({ cls := "KioskReelModel", name := "saw", desc := "(II)I" } : Jvm.MethodName) ({ cls := "KioskReelModel", name := "saw", desc := "(II)I" } : Jvm.MethodName)) ∈ lw_all := lw_g (lw_at lw_m8 117 rfl) rfl
theorem q1840 : (Jvm.Cond.code ({ cls := "KioskReelModel", name := "saw", desc := "(II)I" } : Jvm.MethodName) prog_21_method_50_code (3 : Nat) (Option.some Jvm.ClassFile.FieldType.int)) ∈ lw_all := lw_g (lw_at lw_m8 118 rfl) rfl
theorem q1842 : (Jvm.Cond.instanceMethod ({ cls := "KioskReelModel", name := "done", desc := "()J" } : Jvm.MethodName)) ∈ lw_all := lw_g (lw_at lw_m8 120 rfl) rfl
theorem q1843 : (Jvm.Cond.selects "KioskReelModel" ({ cls := "KioskReelModel", name := "done", desc := "()J" } : Jvm.MethodName) ({ cls := "KioskReelModel", name := "done", desc := "()J" } : Jvm.MethodName)) ∈ lw_all := lw_g (lw_at lw_m8 121 rfl) rfl
theorem q1844 : (Jvm.Cond.code ({ cls := "KioskReelModel", name := "done", desc := "()J" } : Jvm.MethodName) prog_21_method_51_code (1 : Nat) (Option.some Jvm.ClassFile.FieldType.long)) ∈ lw_all := lw_g (lw_at lw_m8 122 rfl) rfl
theorem q1846 : (Jvm.Cond.instanceMethod ({ cls := "KioskReelModel", name := "heldShare", desc := "()F" } : Jvm.MethodName)) ∈ lw_all := lw_g (lw_at lw_m8 124 rfl) rfl
theorem q1847 : (Jvm.Cond.selects "KioskReelModel" ({ cls := "KioskReelModel", name := "heldShare", desc := "()F" } : Jvm.MethodName) ({ cls := "KioskReelModel", name := "heldShare", desc := "()F" } : Jvm.MethodName)) ∈ lw_all := lw_g (lw_at lw_m8 125 rfl) rfl
theorem q1848 : (Jvm.Cond.code ({ cls := "KioskReelModel", name := "heldShare", desc := "()F" } : Jvm.MethodName) prog_21_method_52_code (1 : Nat) (Option.some Jvm.ClassFile.FieldType.float)) ∈ lw_all := lw_g (lw_at lw_m8 126 rfl) rfl
theorem q1849 : (Jvm.Cond.constantFloat "KioskReelModel" (194 : Nat) (1086324736 : UInt32)) ∈ lw_all := lw_g (lw_at lw_m8 127 rfl) rfl
theorem q1851 : (Jvm.Cond.instanceMethod ({ cls := "KioskReelModel", name := "heldBits", desc := "()I" } : Jvm.MethodName)) ∈ lw_all := lw_g (lw_at lw_m8 129 rfl) rfl
theorem q1852 : (Jvm.Cond.selects "KioskReelModel" ({ cls := "KioskReelModel", name := "heldBits", desc := "()I" } : Jvm.MethodName) ({ cls := "KioskReelModel", name := "heldBits", desc := "()I" } : Jvm.MethodName)) ∈ lw_all := lw_g (lw_at lw_m8 130 rfl) rfl
theorem q1853 : (Jvm.Cond.code ({ cls := "KioskReelModel", name := "heldBits", desc := "()I" } : Jvm.MethodName) prog_21_method_53_code (1 : Nat) (Option.some Jvm.ClassFile.FieldType.int)) ∈ lw_all := lw_g (lw_at lw_m8 131 rfl) rfl
theorem q1854 : (Jvm.Cond.methodLink "KioskReelModel" (195 : Nat) ({ cls := "KioskReelModel", name := "heldShare", desc := "()F" } : Jvm.MethodName)) ∈ lw_all := lw_g (lw_at lw_m8 132 rfl) rfl
theorem q1855 : (Jvm.Cond.methodLink "KioskReelModel" (199 : Nat) ({ cls := "java/lang/Float", name := "floatToIntBits", desc := "(F)I" } : Jvm.MethodName)) ∈ lw_all := lw_g (lw_at lw_m8 133 rfl) rfl
theorem q1857 : (Jvm.Cond.instanceMethod ({ cls := "KioskReelModel", name := "meanSeen", desc := "()D" } : Jvm.MethodName)) ∈ lw_all := lw_g (lw_at lw_m8 135 rfl) rfl
theorem q1858 : (Jvm.Cond.selects "KioskReelModel" ({ cls := "KioskReelModel", name := "meanSeen", desc := "()D" } : Jvm.MethodName) ({ cls := "KioskReelModel", name := "meanSeen", desc := "()D" } : Jvm.MethodName)) ∈ lw_all := lw_g (lw_at lw_m8 136 rfl) rfl
theorem q1859 : (Jvm.Cond.code ({ cls := "KioskReelModel", name := "meanSeen", desc := "()D" } : Jvm.MethodName) prog_21_method_54_code (4 : Nat) (Option.some Jvm.ClassFile.FieldType.double)) ∈ lw_all := lw_g (lw_at lw_m8 137 rfl) rfl
theorem q1861 : (Jvm.Cond.instanceMethod ({ cls := "KioskReelModel", name := "isSound", desc := "()Z" } : Jvm.MethodName)) ∈ lw_all := lw_g (lw_at lw_m8 139 rfl) rfl
theorem q1862 : (Jvm.Cond.selects "KioskReelModel" ({ cls := "KioskReelModel", name := "isSound", desc := "()Z" } : Jvm.MethodName) ({ cls := "KioskReelModel", name := "isSound", desc := "()Z" } : Jvm.MethodName)) ∈ lw_all := lw_g (lw_at lw_m8 140 rfl) rfl
theorem q1863 : (Jvm.Cond.code ({ cls := "KioskReelModel", name := "isSound", desc := "()Z" } : Jvm.MethodName) prog_21_method_55_code (1 : Nat) (Option.some Jvm.ClassFile.FieldType.boolean)) ∈ lw_all := lw_g (lw_at lw_m8 141 rfl) rfl
theorem q1899 : (Jvm.Cond.castable "KioskReelModel" "java/lang/Object") ∈ lw_tbl := lw_at lw_m8 177 rfl
theorem in_X3 : ∀ w ∈ wsX30, w ∈ lw_all := lw_in wsX30 [1585, 1587, 1589, 1591, 1593, 1595, 1597, 1599, 1601, 1603, 1605, 1607, 1609, 1611, 1613, 1615, 1617, 1619, 1621, 1623, 1625, 1627, 1629, 1631, 1633, 1635, 1637, 1639, 1641, 1643, 1645, 1647] (by decide +kernel) (by decide +kernel)
