/-! FourPartsModel -/
set_option maxRecDepth 100000
def RX5 : String := "FourPartsModel"
def TX5 : u_T := fun k => match k with
  | 0 => ("FourPartsModel", "kind", "[I", true)
  | 1 => ("FourPartsModel", "size", "[I", true)
  | 2 => ("FourPartsModel", "sheets", "[J", true)
  | 3 => ("FourPartsModel", "registers", "[I", true)
  | 4 => ("FourPartsModel", "units", "[I", true)
  | 5 => ("FourPartsModel", "factors", "I", false)
  | 6 => ("FourPartsModel", "factor", "[J", true)
  | 7 => ("FourPartsModel", "middle", "[J", true)
  | 8 => ("FourPartsModel", "x", "[J", true)
  | 9 => ("FourPartsModel", "y", "[J", true)
  | 10 => ("FourPartsModel", "z", "[J", true)
  | 11 => ("FourPartsModel", "rest", "[J", true)
  | 12 => ("FourPartsModel", "best", "[J", true)
  | 13 => ("FourPartsModel", "quotient", "[J", true)
  | 14 => ("FourPartsModel", "w", "[J", true)
  | 15 => ("FourPartsModel", "turnedOver", "[J", true)
  | 16 => ("FourPartsModel", "left", "[J", true)
  | _ => ("FourPartsModel", "more", "I", false)
def tyX5 : Nat → FieldType := fun k => match k with
  | 0 => .array .int
  | 1 => .array .int
  | 2 => .array .long
  | 3 => .array .int
  | 4 => .array .int
  | 5 => .int
  | 6 => .array .long
  | 7 => .array .long
  | 8 => .array .long
  | 9 => .array .long
  | 10 => .array .long
  | 11 => .array .long
  | 12 => .array .long
  | 13 => .array .long
  | 14 => .array .long
  | 15 => .array .long
  | 16 => .array .long
  | _ => .int
abbrev wsX50 : List Cond := u_ws RX5 TX5 18
set_option maxRecDepth 100000 in
theorem nmX5 : ∀ a, a < 18 → ∀ b, b < 18 → a ≠ b → (TX5 a).2.1 ≠ (TX5 b).2.1 := by decide +kernel
set_option maxRecDepth 100000 in
theorem tyX5_ok : ∀ k, k < 18 → parseFieldDescriptor (TX5 k).2.2.1 = some (tyX5 k) := by decide +kernel
abbrev cX5_init : ByteArray := prog_9_method_1_code
def yX5_init : MethodName := ⟨RX5, "<init>", "()V"⟩
def dkwX5_init_12 : List UInt8 := [177]
abbrev dktX5_init_12 : List UInt8 := dkwX5_init_12 ++ []
def dkwX5_init_11 : List UInt8 := [132, 5, 255, 167, 255, 168, 132, 4, 255, 167, 255, 152, 132, 3, 255, 167, 255, 137, 132, 2, 255, 167, 255, 123]
abbrev dktX5_init_11 : List UInt8 := dkwX5_init_11 ++ dktX5_init_12
def dkwX5_init_10 : List UInt8 := [79, 42, 180, 0, 23, 27, 5, 96, 21, 4, 79, 42, 180, 0, 23, 27, 6, 96, 21, 5, 79, 132, 1, 4]
abbrev dktX5_init_10 : List UInt8 := dkwX5_init_10 ++ dktX5_init_11
def dkwX5_init_9 : List UInt8 := [21, 5, 133, 184, 0, 59, 153, 0, 42, 42, 180, 0, 23, 27, 28, 79, 42, 180, 0, 23, 27, 4, 96, 29]
abbrev dktX5_init_9 : List UInt8 := dkwX5_init_9 ++ dktX5_init_10
def dkwX5_init_8 : List UInt8 := [21, 4, 21, 4, 104, 96, 21, 5, 21, 5, 104, 96, 7, 160, 0, 58, 28, 133, 29, 133, 21, 4, 133]
abbrev dktX5_init_8 : List UInt8 := dkwX5_init_8 ++ dktX5_init_9
def dkwX5_init_7 : List UInt8 := [21, 4, 16, 254, 161, 0, 103, 5, 54, 5, 21, 5, 16, 254, 161, 0, 87, 28, 28, 104, 29, 29, 104, 96]
abbrev dktX5_init_7 : List UInt8 := dkwX5_init_7 ++ dktX5_init_8
def dkwX5_init_6 : List UInt8 := [167, 255, 240, 3, 60, 5, 61, 28, 16, 254, 161, 0, 133, 5, 62, 29, 16, 254, 161, 0, 119, 5, 54, 4]
abbrev dktX5_init_6 : List UInt8 := dkwX5_init_6 ++ dktX5_init_7
def dkwX5_init_5 : List UInt8 := [188, 11, 181, 0, 56, 3, 60, 27, 16, 6, 162, 0, 16, 42, 180, 0, 7, 27, 2, 79, 132, 1, 1]
abbrev dktX5_init_5 : List UInt8 := dkwX5_init_5 ++ dktX5_init_6
def dkwX5_init_4 : List UInt8 := [42, 7, 188, 11, 181, 0, 47, 42, 7, 188, 11, 181, 0, 50, 42, 7, 188, 11, 181, 0, 53, 42, 7]
abbrev dktX5_init_4 : List UInt8 := dkwX5_init_4 ++ dktX5_init_5
def dkwX5_init_3 : List UInt8 := [181, 0, 35, 42, 7, 188, 11, 181, 0, 38, 42, 7, 188, 11, 181, 0, 41, 42, 7, 188, 11, 181, 0, 44]
abbrev dktX5_init_3 : List UInt8 := dkwX5_init_3 ++ dktX5_init_4
def dkwX5_init_2 : List UInt8 := [188, 11, 181, 0, 26, 42, 16, 16, 188, 11, 181, 0, 29, 42, 7, 188, 11, 181, 0, 32, 42, 7, 188, 11]
abbrev dktX5_init_2 : List UInt8 := dkwX5_init_2 ++ dktX5_init_3
def dkwX5_init_1 : List UInt8 := [188, 11, 181, 0, 16, 42, 16, 64, 188, 10, 181, 0, 20, 42, 16, 96, 188, 10, 181, 0, 23, 42, 16, 48]
abbrev dktX5_init_1 : List UInt8 := dkwX5_init_1 ++ dktX5_init_2
def dkwX5_init_0 : List UInt8 := [42, 183, 0, 1, 42, 16, 6, 188, 10, 181, 0, 7, 42, 16, 6, 188, 10, 181, 0, 13, 42, 16, 96]
abbrev dktX5_init_0 : List UInt8 := dkwX5_init_0 ++ dktX5_init_1
theorem dksX5_init_0 : cX5_init.data.toList.drop 0 = dktX5_init_0 := by decide +kernel
theorem dksX5_init_1 : cX5_init.data.toList.drop 23 = dktX5_init_1 := dk_seg dksX5_init_0 23 rfl rfl
theorem dksX5_init_2 : cX5_init.data.toList.drop 47 = dktX5_init_2 := dk_seg dksX5_init_1 24 rfl rfl
theorem dksX5_init_3 : cX5_init.data.toList.drop 71 = dktX5_init_3 := dk_seg dksX5_init_2 24 rfl rfl
theorem dksX5_init_4 : cX5_init.data.toList.drop 95 = dktX5_init_4 := dk_seg dksX5_init_3 24 rfl rfl
theorem dksX5_init_5 : cX5_init.data.toList.drop 118 = dktX5_init_5 := dk_seg dksX5_init_4 23 rfl rfl
theorem dksX5_init_6 : cX5_init.data.toList.drop 141 = dktX5_init_6 := dk_seg dksX5_init_5 23 rfl rfl
theorem dksX5_init_7 : cX5_init.data.toList.drop 165 = dktX5_init_7 := dk_seg dksX5_init_6 24 rfl rfl
theorem dksX5_init_8 : cX5_init.data.toList.drop 189 = dktX5_init_8 := dk_seg dksX5_init_7 24 rfl rfl
theorem dksX5_init_9 : cX5_init.data.toList.drop 212 = dktX5_init_9 := dk_seg dksX5_init_8 23 rfl rfl
theorem dksX5_init_10 : cX5_init.data.toList.drop 236 = dktX5_init_10 := dk_seg dksX5_init_9 24 rfl rfl
theorem dksX5_init_11 : cX5_init.data.toList.drop 260 = dktX5_init_11 := dk_seg dksX5_init_10 24 rfl rfl
theorem dksX5_init_12 : cX5_init.data.toList.drop 284 = dktX5_init_12 := dk_seg dksX5_init_11 24 rfl rfl
theorem dX5_init_0 : decode cX5_init 0 = .ok (.aload_n 0, 1) := dk_42 (dk_at dksX5_init_0 0 rfl rfl)
theorem dX5_init_1 : decode cX5_init 1 = .ok (.invokespecial 1, 3) := dk_183 0 1 (dk_at dksX5_init_0 1 rfl rfl)
theorem dX5_init_4 : decode cX5_init 4 = .ok (.aload_n 0, 1) := dk_42 (dk_at dksX5_init_0 4 rfl rfl)
theorem dX5_init_5 : decode cX5_init 5 = .ok (.bipush 6, 2) := dk_16 6 (dk_at dksX5_init_0 5 rfl rfl)
theorem dX5_init_7 : decode cX5_init 7 = .ok (.newarray .int, 2) := dk_188_10 (dk_at dksX5_init_0 7 rfl rfl)
theorem dX5_init_9 : decode cX5_init 9 = .ok (.putfield 7, 3) := dk_181 0 7 (dk_at dksX5_init_0 9 rfl rfl)
theorem dX5_init_12 : decode cX5_init 12 = .ok (.aload_n 0, 1) := dk_42 (dk_at dksX5_init_0 12 rfl rfl)
theorem dX5_init_13 : decode cX5_init 13 = .ok (.bipush 6, 2) := dk_16 6 (dk_at dksX5_init_0 13 rfl rfl)
theorem dX5_init_15 : decode cX5_init 15 = .ok (.newarray .int, 2) := dk_188_10 (dk_at dksX5_init_0 15 rfl rfl)
theorem dX5_init_17 : decode cX5_init 17 = .ok (.putfield 13, 3) := dk_181 0 13 (dk_at dksX5_init_0 17 rfl rfl)
theorem dX5_init_20 : decode cX5_init 20 = .ok (.aload_n 0, 1) := dk_42 (dk_at dksX5_init_0 20 rfl rfl)
theorem dX5_init_21 : decode cX5_init 21 = .ok (.bipush 96, 2) := dk_16 96 (dk_at dksX5_init_0 21 rfl rfl)
theorem dX5_init_23 : decode cX5_init 23 = .ok (.newarray .long, 2) := dk_188_11 (dk_at dksX5_init_1 0 rfl rfl)
theorem dX5_init_25 : decode cX5_init 25 = .ok (.putfield 16, 3) := dk_181 0 16 (dk_at dksX5_init_1 2 rfl rfl)
theorem dX5_init_28 : decode cX5_init 28 = .ok (.aload_n 0, 1) := dk_42 (dk_at dksX5_init_1 5 rfl rfl)
theorem dX5_init_29 : decode cX5_init 29 = .ok (.bipush 64, 2) := dk_16 64 (dk_at dksX5_init_1 6 rfl rfl)
theorem dX5_init_31 : decode cX5_init 31 = .ok (.newarray .int, 2) := dk_188_10 (dk_at dksX5_init_1 8 rfl rfl)
theorem dX5_init_33 : decode cX5_init 33 = .ok (.putfield 20, 3) := dk_181 0 20 (dk_at dksX5_init_1 10 rfl rfl)
theorem dX5_init_36 : decode cX5_init 36 = .ok (.aload_n 0, 1) := dk_42 (dk_at dksX5_init_1 13 rfl rfl)
theorem dX5_init_37 : decode cX5_init 37 = .ok (.bipush 96, 2) := dk_16 96 (dk_at dksX5_init_1 14 rfl rfl)
theorem dX5_init_39 : decode cX5_init 39 = .ok (.newarray .int, 2) := dk_188_10 (dk_at dksX5_init_1 16 rfl rfl)
theorem dX5_init_41 : decode cX5_init 41 = .ok (.putfield 23, 3) := dk_181 0 23 (dk_at dksX5_init_1 18 rfl rfl)
theorem dX5_init_44 : decode cX5_init 44 = .ok (.aload_n 0, 1) := dk_42 (dk_at dksX5_init_1 21 rfl rfl)
theorem dX5_init_45 : decode cX5_init 45 = .ok (.bipush 48, 2) := dk_16 48 (dk_at dksX5_init_1 22 rfl rfl)
theorem dX5_init_47 : decode cX5_init 47 = .ok (.newarray .long, 2) := dk_188_11 (dk_at dksX5_init_2 0 rfl rfl)
theorem dX5_init_49 : decode cX5_init 49 = .ok (.putfield 26, 3) := dk_181 0 26 (dk_at dksX5_init_2 2 rfl rfl)
theorem dX5_init_52 : decode cX5_init 52 = .ok (.aload_n 0, 1) := dk_42 (dk_at dksX5_init_2 5 rfl rfl)
theorem dX5_init_53 : decode cX5_init 53 = .ok (.bipush 16, 2) := dk_16 16 (dk_at dksX5_init_2 6 rfl rfl)
theorem dX5_init_55 : decode cX5_init 55 = .ok (.newarray .long, 2) := dk_188_11 (dk_at dksX5_init_2 8 rfl rfl)
theorem dX5_init_57 : decode cX5_init 57 = .ok (.putfield 29, 3) := dk_181 0 29 (dk_at dksX5_init_2 10 rfl rfl)
theorem dX5_init_60 : decode cX5_init 60 = .ok (.aload_n 0, 1) := dk_42 (dk_at dksX5_init_2 13 rfl rfl)
theorem dX5_init_61 : decode cX5_init 61 = .ok (.iconst 4, 1) := dk_7 (dk_at dksX5_init_2 14 rfl rfl)
theorem dX5_init_62 : decode cX5_init 62 = .ok (.newarray .long, 2) := dk_188_11 (dk_at dksX5_init_2 15 rfl rfl)
theorem dX5_init_64 : decode cX5_init 64 = .ok (.putfield 32, 3) := dk_181 0 32 (dk_at dksX5_init_2 17 rfl rfl)
theorem dX5_init_67 : decode cX5_init 67 = .ok (.aload_n 0, 1) := dk_42 (dk_at dksX5_init_2 20 rfl rfl)
theorem dX5_init_68 : decode cX5_init 68 = .ok (.iconst 4, 1) := dk_7 (dk_at dksX5_init_2 21 rfl rfl)
theorem dX5_init_69 : decode cX5_init 69 = .ok (.newarray .long, 2) := dk_188_11 (dk_at dksX5_init_2 22 rfl rfl)
theorem dX5_init_71 : decode cX5_init 71 = .ok (.putfield 35, 3) := dk_181 0 35 (dk_at dksX5_init_3 0 rfl rfl)
theorem dX5_init_74 : decode cX5_init 74 = .ok (.aload_n 0, 1) := dk_42 (dk_at dksX5_init_3 3 rfl rfl)
theorem dX5_init_75 : decode cX5_init 75 = .ok (.iconst 4, 1) := dk_7 (dk_at dksX5_init_3 4 rfl rfl)
theorem dX5_init_76 : decode cX5_init 76 = .ok (.newarray .long, 2) := dk_188_11 (dk_at dksX5_init_3 5 rfl rfl)
theorem dX5_init_78 : decode cX5_init 78 = .ok (.putfield 38, 3) := dk_181 0 38 (dk_at dksX5_init_3 7 rfl rfl)
theorem dX5_init_81 : decode cX5_init 81 = .ok (.aload_n 0, 1) := dk_42 (dk_at dksX5_init_3 10 rfl rfl)
theorem dX5_init_82 : decode cX5_init 82 = .ok (.iconst 4, 1) := dk_7 (dk_at dksX5_init_3 11 rfl rfl)
theorem dX5_init_83 : decode cX5_init 83 = .ok (.newarray .long, 2) := dk_188_11 (dk_at dksX5_init_3 12 rfl rfl)
theorem dX5_init_85 : decode cX5_init 85 = .ok (.putfield 41, 3) := dk_181 0 41 (dk_at dksX5_init_3 14 rfl rfl)
theorem dX5_init_88 : decode cX5_init 88 = .ok (.aload_n 0, 1) := dk_42 (dk_at dksX5_init_3 17 rfl rfl)
theorem dX5_init_89 : decode cX5_init 89 = .ok (.iconst 4, 1) := dk_7 (dk_at dksX5_init_3 18 rfl rfl)
theorem dX5_init_90 : decode cX5_init 90 = .ok (.newarray .long, 2) := dk_188_11 (dk_at dksX5_init_3 19 rfl rfl)
theorem dX5_init_92 : decode cX5_init 92 = .ok (.putfield 44, 3) := dk_181 0 44 (dk_at dksX5_init_3 21 rfl rfl)
theorem dX5_init_95 : decode cX5_init 95 = .ok (.aload_n 0, 1) := dk_42 (dk_at dksX5_init_4 0 rfl rfl)
theorem dX5_init_96 : decode cX5_init 96 = .ok (.iconst 4, 1) := dk_7 (dk_at dksX5_init_4 1 rfl rfl)
theorem dX5_init_97 : decode cX5_init 97 = .ok (.newarray .long, 2) := dk_188_11 (dk_at dksX5_init_4 2 rfl rfl)
theorem dX5_init_99 : decode cX5_init 99 = .ok (.putfield 47, 3) := dk_181 0 47 (dk_at dksX5_init_4 4 rfl rfl)
theorem dX5_init_102 : decode cX5_init 102 = .ok (.aload_n 0, 1) := dk_42 (dk_at dksX5_init_4 7 rfl rfl)
theorem dX5_init_103 : decode cX5_init 103 = .ok (.iconst 4, 1) := dk_7 (dk_at dksX5_init_4 8 rfl rfl)
theorem dX5_init_104 : decode cX5_init 104 = .ok (.newarray .long, 2) := dk_188_11 (dk_at dksX5_init_4 9 rfl rfl)
theorem dX5_init_106 : decode cX5_init 106 = .ok (.putfield 50, 3) := dk_181 0 50 (dk_at dksX5_init_4 11 rfl rfl)
theorem dX5_init_109 : decode cX5_init 109 = .ok (.aload_n 0, 1) := dk_42 (dk_at dksX5_init_4 14 rfl rfl)
theorem dX5_init_110 : decode cX5_init 110 = .ok (.iconst 4, 1) := dk_7 (dk_at dksX5_init_4 15 rfl rfl)
theorem dX5_init_111 : decode cX5_init 111 = .ok (.newarray .long, 2) := dk_188_11 (dk_at dksX5_init_4 16 rfl rfl)
theorem dX5_init_113 : decode cX5_init 113 = .ok (.putfield 53, 3) := dk_181 0 53 (dk_at dksX5_init_4 18 rfl rfl)
theorem dX5_init_116 : decode cX5_init 116 = .ok (.aload_n 0, 1) := dk_42 (dk_at dksX5_init_4 21 rfl rfl)
theorem dX5_init_117 : decode cX5_init 117 = .ok (.iconst 4, 1) := dk_7 (dk_at dksX5_init_4 22 rfl rfl)
theorem dX5_init_118 : decode cX5_init 118 = .ok (.newarray .long, 2) := dk_188_11 (dk_at dksX5_init_5 0 rfl rfl)
theorem dX5_init_120 : decode cX5_init 120 = .ok (.putfield 56, 3) := dk_181 0 56 (dk_at dksX5_init_5 2 rfl rfl)
theorem dX5_init_123 : decode cX5_init 123 = .ok (.iconst 0, 1) := dk_3 (dk_at dksX5_init_5 5 rfl rfl)
theorem dX5_init_124 : decode cX5_init 124 = .ok (.istore_n 1, 1) := dk_60 (dk_at dksX5_init_5 6 rfl rfl)
theorem dX5_init_125 : decode cX5_init 125 = .ok (.iload_n 1, 1) := dk_27 (dk_at dksX5_init_5 7 rfl rfl)
theorem dX5_init_126 : decode cX5_init 126 = .ok (.bipush 6, 2) := dk_16 6 (dk_at dksX5_init_5 8 rfl rfl)
theorem dX5_init_128 : decode cX5_init 128 = .ok (.if_icmp .ge 16, 3) := dk_162 0 16 (dk_at dksX5_init_5 10 rfl rfl)
theorem dX5_init_131 : decode cX5_init 131 = .ok (.aload_n 0, 1) := dk_42 (dk_at dksX5_init_5 13 rfl rfl)
theorem dX5_init_132 : decode cX5_init 132 = .ok (.getfield 7, 3) := dk_180 0 7 (dk_at dksX5_init_5 14 rfl rfl)
theorem dX5_init_135 : decode cX5_init 135 = .ok (.iload_n 1, 1) := dk_27 (dk_at dksX5_init_5 17 rfl rfl)
theorem dX5_init_136 : decode cX5_init 136 = .ok (.iconst (-1), 1) := dk_2 (dk_at dksX5_init_5 18 rfl rfl)
theorem dX5_init_137 : decode cX5_init 137 = .ok (.iastore, 1) := dk_79 (dk_at dksX5_init_5 19 rfl rfl)
theorem dX5_init_138 : decode cX5_init 138 = .ok (.iinc 1 1, 3) := dk_132 1 1 (dk_at dksX5_init_5 20 rfl rfl)
theorem dX5_init_141 : decode cX5_init 141 = .ok (.goto (-16), 3) := dk_167 255 240 (dk_at dksX5_init_6 0 rfl rfl)
theorem dX5_init_144 : decode cX5_init 144 = .ok (.iconst 0, 1) := dk_3 (dk_at dksX5_init_6 3 rfl rfl)
theorem dX5_init_145 : decode cX5_init 145 = .ok (.istore_n 1, 1) := dk_60 (dk_at dksX5_init_6 4 rfl rfl)
theorem dX5_init_146 : decode cX5_init 146 = .ok (.iconst 2, 1) := dk_5 (dk_at dksX5_init_6 5 rfl rfl)
theorem dX5_init_147 : decode cX5_init 147 = .ok (.istore_n 2, 1) := dk_61 (dk_at dksX5_init_6 6 rfl rfl)
theorem dX5_init_148 : decode cX5_init 148 = .ok (.iload_n 2, 1) := dk_28 (dk_at dksX5_init_6 7 rfl rfl)
theorem dX5_init_149 : decode cX5_init 149 = .ok (.bipush (-2), 2) := dk_16 254 (dk_at dksX5_init_6 8 rfl rfl)
theorem dX5_init_151 : decode cX5_init 151 = .ok (.if_icmp .lt 133, 3) := dk_161 0 133 (dk_at dksX5_init_6 10 rfl rfl)
theorem dX5_init_154 : decode cX5_init 154 = .ok (.iconst 2, 1) := dk_5 (dk_at dksX5_init_6 13 rfl rfl)
theorem dX5_init_155 : decode cX5_init 155 = .ok (.istore_n 3, 1) := dk_62 (dk_at dksX5_init_6 14 rfl rfl)
theorem dX5_init_156 : decode cX5_init 156 = .ok (.iload_n 3, 1) := dk_29 (dk_at dksX5_init_6 15 rfl rfl)
theorem dX5_init_157 : decode cX5_init 157 = .ok (.bipush (-2), 2) := dk_16 254 (dk_at dksX5_init_6 16 rfl rfl)
theorem dX5_init_159 : decode cX5_init 159 = .ok (.if_icmp .lt 119, 3) := dk_161 0 119 (dk_at dksX5_init_6 18 rfl rfl)
theorem dX5_init_162 : decode cX5_init 162 = .ok (.iconst 2, 1) := dk_5 (dk_at dksX5_init_6 21 rfl rfl)
theorem dX5_init_163 : decode cX5_init 163 = .ok (.istore 4, 2) := dk_54 4 (dk_at dksX5_init_6 22 rfl rfl)
theorem dX5_init_165 : decode cX5_init 165 = .ok (.iload 4, 2) := dk_21 4 (dk_at dksX5_init_7 0 rfl rfl)
theorem dX5_init_167 : decode cX5_init 167 = .ok (.bipush (-2), 2) := dk_16 254 (dk_at dksX5_init_7 2 rfl rfl)
theorem dX5_init_169 : decode cX5_init 169 = .ok (.if_icmp .lt 103, 3) := dk_161 0 103 (dk_at dksX5_init_7 4 rfl rfl)
theorem dX5_init_172 : decode cX5_init 172 = .ok (.iconst 2, 1) := dk_5 (dk_at dksX5_init_7 7 rfl rfl)
theorem dX5_init_173 : decode cX5_init 173 = .ok (.istore 5, 2) := dk_54 5 (dk_at dksX5_init_7 8 rfl rfl)
theorem dX5_init_175 : decode cX5_init 175 = .ok (.iload 5, 2) := dk_21 5 (dk_at dksX5_init_7 10 rfl rfl)
theorem dX5_init_177 : decode cX5_init 177 = .ok (.bipush (-2), 2) := dk_16 254 (dk_at dksX5_init_7 12 rfl rfl)
theorem dX5_init_179 : decode cX5_init 179 = .ok (.if_icmp .lt 87, 3) := dk_161 0 87 (dk_at dksX5_init_7 14 rfl rfl)
theorem dX5_init_182 : decode cX5_init 182 = .ok (.iload_n 2, 1) := dk_28 (dk_at dksX5_init_7 17 rfl rfl)
theorem dX5_init_183 : decode cX5_init 183 = .ok (.iload_n 2, 1) := dk_28 (dk_at dksX5_init_7 18 rfl rfl)
theorem dX5_init_184 : decode cX5_init 184 = .ok (.imul, 1) := dk_104 (dk_at dksX5_init_7 19 rfl rfl)
theorem dX5_init_185 : decode cX5_init 185 = .ok (.iload_n 3, 1) := dk_29 (dk_at dksX5_init_7 20 rfl rfl)
theorem dX5_init_186 : decode cX5_init 186 = .ok (.iload_n 3, 1) := dk_29 (dk_at dksX5_init_7 21 rfl rfl)
theorem dX5_init_187 : decode cX5_init 187 = .ok (.imul, 1) := dk_104 (dk_at dksX5_init_7 22 rfl rfl)
theorem dX5_init_188 : decode cX5_init 188 = .ok (.iadd, 1) := dk_96 (dk_at dksX5_init_7 23 rfl rfl)
theorem dX5_init_189 : decode cX5_init 189 = .ok (.iload 4, 2) := dk_21 4 (dk_at dksX5_init_8 0 rfl rfl)
theorem dX5_init_191 : decode cX5_init 191 = .ok (.iload 4, 2) := dk_21 4 (dk_at dksX5_init_8 2 rfl rfl)
theorem dX5_init_193 : decode cX5_init 193 = .ok (.imul, 1) := dk_104 (dk_at dksX5_init_8 4 rfl rfl)
theorem dX5_init_194 : decode cX5_init 194 = .ok (.iadd, 1) := dk_96 (dk_at dksX5_init_8 5 rfl rfl)
theorem dX5_init_195 : decode cX5_init 195 = .ok (.iload 5, 2) := dk_21 5 (dk_at dksX5_init_8 6 rfl rfl)
theorem dX5_init_197 : decode cX5_init 197 = .ok (.iload 5, 2) := dk_21 5 (dk_at dksX5_init_8 8 rfl rfl)
theorem dX5_init_199 : decode cX5_init 199 = .ok (.imul, 1) := dk_104 (dk_at dksX5_init_8 10 rfl rfl)
theorem dX5_init_200 : decode cX5_init 200 = .ok (.iadd, 1) := dk_96 (dk_at dksX5_init_8 11 rfl rfl)
theorem dX5_init_201 : decode cX5_init 201 = .ok (.iconst 4, 1) := dk_7 (dk_at dksX5_init_8 12 rfl rfl)
theorem dX5_init_202 : decode cX5_init 202 = .ok (.if_icmp .ne 58, 3) := dk_160 0 58 (dk_at dksX5_init_8 13 rfl rfl)
theorem dX5_init_205 : decode cX5_init 205 = .ok (.iload_n 2, 1) := dk_28 (dk_at dksX5_init_8 16 rfl rfl)
theorem dX5_init_206 : decode cX5_init 206 = .ok (.i2l, 1) := dk_133 (dk_at dksX5_init_8 17 rfl rfl)
theorem dX5_init_207 : decode cX5_init 207 = .ok (.iload_n 3, 1) := dk_29 (dk_at dksX5_init_8 18 rfl rfl)
theorem dX5_init_208 : decode cX5_init 208 = .ok (.i2l, 1) := dk_133 (dk_at dksX5_init_8 19 rfl rfl)
theorem dX5_init_209 : decode cX5_init 209 = .ok (.iload 4, 2) := dk_21 4 (dk_at dksX5_init_8 20 rfl rfl)
theorem dX5_init_211 : decode cX5_init 211 = .ok (.i2l, 1) := dk_133 (dk_at dksX5_init_8 22 rfl rfl)
theorem dX5_init_212 : decode cX5_init 212 = .ok (.iload 5, 2) := dk_21 5 (dk_at dksX5_init_9 0 rfl rfl)
theorem dX5_init_214 : decode cX5_init 214 = .ok (.i2l, 1) := dk_133 (dk_at dksX5_init_9 2 rfl rfl)
theorem dX5_init_215 : decode cX5_init 215 = .ok (.invokestatic 59, 3) := dk_184 0 59 (dk_at dksX5_init_9 3 rfl rfl)
theorem dX5_init_218 : decode cX5_init 218 = .ok (.ifCond .eq 42, 3) := dk_153 0 42 (dk_at dksX5_init_9 6 rfl rfl)
theorem dX5_init_221 : decode cX5_init 221 = .ok (.aload_n 0, 1) := dk_42 (dk_at dksX5_init_9 9 rfl rfl)
theorem dX5_init_222 : decode cX5_init 222 = .ok (.getfield 23, 3) := dk_180 0 23 (dk_at dksX5_init_9 10 rfl rfl)
theorem dX5_init_225 : decode cX5_init 225 = .ok (.iload_n 1, 1) := dk_27 (dk_at dksX5_init_9 13 rfl rfl)
theorem dX5_init_226 : decode cX5_init 226 = .ok (.iload_n 2, 1) := dk_28 (dk_at dksX5_init_9 14 rfl rfl)
theorem dX5_init_227 : decode cX5_init 227 = .ok (.iastore, 1) := dk_79 (dk_at dksX5_init_9 15 rfl rfl)
theorem dX5_init_228 : decode cX5_init 228 = .ok (.aload_n 0, 1) := dk_42 (dk_at dksX5_init_9 16 rfl rfl)
theorem dX5_init_229 : decode cX5_init 229 = .ok (.getfield 23, 3) := dk_180 0 23 (dk_at dksX5_init_9 17 rfl rfl)
theorem dX5_init_232 : decode cX5_init 232 = .ok (.iload_n 1, 1) := dk_27 (dk_at dksX5_init_9 20 rfl rfl)
theorem dX5_init_233 : decode cX5_init 233 = .ok (.iconst 1, 1) := dk_4 (dk_at dksX5_init_9 21 rfl rfl)
theorem dX5_init_234 : decode cX5_init 234 = .ok (.iadd, 1) := dk_96 (dk_at dksX5_init_9 22 rfl rfl)
theorem dX5_init_235 : decode cX5_init 235 = .ok (.iload_n 3, 1) := dk_29 (dk_at dksX5_init_9 23 rfl rfl)
theorem dX5_init_236 : decode cX5_init 236 = .ok (.iastore, 1) := dk_79 (dk_at dksX5_init_10 0 rfl rfl)
theorem dX5_init_237 : decode cX5_init 237 = .ok (.aload_n 0, 1) := dk_42 (dk_at dksX5_init_10 1 rfl rfl)
theorem dX5_init_238 : decode cX5_init 238 = .ok (.getfield 23, 3) := dk_180 0 23 (dk_at dksX5_init_10 2 rfl rfl)
theorem dX5_init_241 : decode cX5_init 241 = .ok (.iload_n 1, 1) := dk_27 (dk_at dksX5_init_10 5 rfl rfl)
theorem dX5_init_242 : decode cX5_init 242 = .ok (.iconst 2, 1) := dk_5 (dk_at dksX5_init_10 6 rfl rfl)
theorem dX5_init_243 : decode cX5_init 243 = .ok (.iadd, 1) := dk_96 (dk_at dksX5_init_10 7 rfl rfl)
theorem dX5_init_244 : decode cX5_init 244 = .ok (.iload 4, 2) := dk_21 4 (dk_at dksX5_init_10 8 rfl rfl)
theorem dX5_init_246 : decode cX5_init 246 = .ok (.iastore, 1) := dk_79 (dk_at dksX5_init_10 10 rfl rfl)
theorem dX5_init_247 : decode cX5_init 247 = .ok (.aload_n 0, 1) := dk_42 (dk_at dksX5_init_10 11 rfl rfl)
theorem dX5_init_248 : decode cX5_init 248 = .ok (.getfield 23, 3) := dk_180 0 23 (dk_at dksX5_init_10 12 rfl rfl)
theorem dX5_init_251 : decode cX5_init 251 = .ok (.iload_n 1, 1) := dk_27 (dk_at dksX5_init_10 15 rfl rfl)
theorem dX5_init_252 : decode cX5_init 252 = .ok (.iconst 3, 1) := dk_6 (dk_at dksX5_init_10 16 rfl rfl)
theorem dX5_init_253 : decode cX5_init 253 = .ok (.iadd, 1) := dk_96 (dk_at dksX5_init_10 17 rfl rfl)
theorem dX5_init_254 : decode cX5_init 254 = .ok (.iload 5, 2) := dk_21 5 (dk_at dksX5_init_10 18 rfl rfl)
theorem dX5_init_256 : decode cX5_init 256 = .ok (.iastore, 1) := dk_79 (dk_at dksX5_init_10 20 rfl rfl)
theorem dX5_init_257 : decode cX5_init 257 = .ok (.iinc 1 4, 3) := dk_132 1 4 (dk_at dksX5_init_10 21 rfl rfl)
theorem dX5_init_260 : decode cX5_init 260 = .ok (.iinc 5 (-1), 3) := dk_132 5 255 (dk_at dksX5_init_11 0 rfl rfl)
theorem dX5_init_263 : decode cX5_init 263 = .ok (.goto (-88), 3) := dk_167 255 168 (dk_at dksX5_init_11 3 rfl rfl)
theorem dX5_init_266 : decode cX5_init 266 = .ok (.iinc 4 (-1), 3) := dk_132 4 255 (dk_at dksX5_init_11 6 rfl rfl)
theorem dX5_init_269 : decode cX5_init 269 = .ok (.goto (-104), 3) := dk_167 255 152 (dk_at dksX5_init_11 9 rfl rfl)
theorem dX5_init_272 : decode cX5_init 272 = .ok (.iinc 3 (-1), 3) := dk_132 3 255 (dk_at dksX5_init_11 12 rfl rfl)
theorem dX5_init_275 : decode cX5_init 275 = .ok (.goto (-119), 3) := dk_167 255 137 (dk_at dksX5_init_11 15 rfl rfl)
theorem dX5_init_278 : decode cX5_init 278 = .ok (.iinc 2 (-1), 3) := dk_132 2 255 (dk_at dksX5_init_11 18 rfl rfl)
theorem dX5_init_281 : decode cX5_init 281 = .ok (.goto (-133), 3) := dk_167 255 123 (dk_at dksX5_init_11 21 rfl rfl)
theorem dX5_init_284 : decode cX5_init 284 = .ok (.return_, 1) := dk_177 (dk_at dksX5_init_12 0 rfl rfl)
abbrev cX5_isOne : ByteArray := prog_9_method_2_code
def yX5_isOne : MethodName := ⟨RX5, "isOne", "(JJJJ)Z"⟩
def dkwX5_isOne_1 : List UInt8 := [22, 6, 10, 127, 22, 8, 148, 154, 0, 7, 4, 167, 0, 4, 3, 172]
abbrev dktX5_isOne_1 : List UInt8 := dkwX5_isOne_1 ++ []
def dkwX5_isOne_0 : List UInt8 := [30, 10, 127, 55, 8, 32, 10, 127, 22, 8, 148, 154, 0, 27, 22, 4, 10, 127, 22, 8, 148, 154, 0, 17]
abbrev dktX5_isOne_0 : List UInt8 := dkwX5_isOne_0 ++ dktX5_isOne_1
theorem dksX5_isOne_0 : cX5_isOne.data.toList.drop 0 = dktX5_isOne_0 := by decide +kernel
theorem dksX5_isOne_1 : cX5_isOne.data.toList.drop 24 = dktX5_isOne_1 := dk_seg dksX5_isOne_0 24 rfl rfl
theorem dX5_isOne_0 : decode cX5_isOne 0 = .ok (.lload_n 0, 1) := dk_30 (dk_at dksX5_isOne_0 0 rfl rfl)
theorem dX5_isOne_1 : decode cX5_isOne 1 = .ok (.lconst 1, 1) := dk_10 (dk_at dksX5_isOne_0 1 rfl rfl)
theorem dX5_isOne_2 : decode cX5_isOne 2 = .ok (.land, 1) := dk_127 (dk_at dksX5_isOne_0 2 rfl rfl)
theorem dX5_isOne_3 : decode cX5_isOne 3 = .ok (.lstore 8, 2) := dk_55 8 (dk_at dksX5_isOne_0 3 rfl rfl)
theorem dX5_isOne_5 : decode cX5_isOne 5 = .ok (.lload_n 2, 1) := dk_32 (dk_at dksX5_isOne_0 5 rfl rfl)
theorem dX5_isOne_6 : decode cX5_isOne 6 = .ok (.lconst 1, 1) := dk_10 (dk_at dksX5_isOne_0 6 rfl rfl)
theorem dX5_isOne_7 : decode cX5_isOne 7 = .ok (.land, 1) := dk_127 (dk_at dksX5_isOne_0 7 rfl rfl)
theorem dX5_isOne_8 : decode cX5_isOne 8 = .ok (.lload 8, 2) := dk_22 8 (dk_at dksX5_isOne_0 8 rfl rfl)
theorem dX5_isOne_10 : decode cX5_isOne 10 = .ok (.lcmp, 1) := dk_148 (dk_at dksX5_isOne_0 10 rfl rfl)
theorem dX5_isOne_11 : decode cX5_isOne 11 = .ok (.ifCond .ne 27, 3) := dk_154 0 27 (dk_at dksX5_isOne_0 11 rfl rfl)
theorem dX5_isOne_14 : decode cX5_isOne 14 = .ok (.lload 4, 2) := dk_22 4 (dk_at dksX5_isOne_0 14 rfl rfl)
theorem dX5_isOne_16 : decode cX5_isOne 16 = .ok (.lconst 1, 1) := dk_10 (dk_at dksX5_isOne_0 16 rfl rfl)
theorem dX5_isOne_17 : decode cX5_isOne 17 = .ok (.land, 1) := dk_127 (dk_at dksX5_isOne_0 17 rfl rfl)
theorem dX5_isOne_18 : decode cX5_isOne 18 = .ok (.lload 8, 2) := dk_22 8 (dk_at dksX5_isOne_0 18 rfl rfl)
theorem dX5_isOne_20 : decode cX5_isOne 20 = .ok (.lcmp, 1) := dk_148 (dk_at dksX5_isOne_0 20 rfl rfl)
theorem dX5_isOne_21 : decode cX5_isOne 21 = .ok (.ifCond .ne 17, 3) := dk_154 0 17 (dk_at dksX5_isOne_0 21 rfl rfl)
theorem dX5_isOne_24 : decode cX5_isOne 24 = .ok (.lload 6, 2) := dk_22 6 (dk_at dksX5_isOne_1 0 rfl rfl)
theorem dX5_isOne_26 : decode cX5_isOne 26 = .ok (.lconst 1, 1) := dk_10 (dk_at dksX5_isOne_1 2 rfl rfl)
theorem dX5_isOne_27 : decode cX5_isOne 27 = .ok (.land, 1) := dk_127 (dk_at dksX5_isOne_1 3 rfl rfl)
theorem dX5_isOne_28 : decode cX5_isOne 28 = .ok (.lload 8, 2) := dk_22 8 (dk_at dksX5_isOne_1 4 rfl rfl)
theorem dX5_isOne_30 : decode cX5_isOne 30 = .ok (.lcmp, 1) := dk_148 (dk_at dksX5_isOne_1 6 rfl rfl)
theorem dX5_isOne_31 : decode cX5_isOne 31 = .ok (.ifCond .ne 7, 3) := dk_154 0 7 (dk_at dksX5_isOne_1 7 rfl rfl)
theorem dX5_isOne_34 : decode cX5_isOne 34 = .ok (.iconst 1, 1) := dk_4 (dk_at dksX5_isOne_1 10 rfl rfl)
theorem dX5_isOne_35 : decode cX5_isOne 35 = .ok (.goto 4, 3) := dk_167 0 4 (dk_at dksX5_isOne_1 11 rfl rfl)
theorem dX5_isOne_38 : decode cX5_isOne 38 = .ok (.iconst 0, 1) := dk_3 (dk_at dksX5_isOne_1 14 rfl rfl)
theorem dX5_isOne_39 : decode cX5_isOne 39 = .ok (.ireturn, 1) := dk_172 (dk_at dksX5_isOne_1 15 rfl rfl)
abbrev cX5_sheet : ByteArray := prog_9_method_6_code
def yX5_sheet : MethodName := ⟨RX5, "sheet", "(III)I"⟩
def dkwX5_sheet_4 : List UInt8 := [167, 255, 233, 3, 172]
abbrev dktX5_sheet_4 : List UInt8 := dkwX5_sheet_4 ++ []
def dkwX5_sheet_3 : List UInt8 := [21, 4, 16, 16, 162, 0, 22, 42, 180, 0, 16, 16, 16, 27, 104, 21, 4, 96, 9, 80, 132, 4, 1]
abbrev dktX5_sheet_3 : List UInt8 := dkwX5_sheet_3 ++ dktX5_sheet_4
def dkwX5_sheet_2 : List UInt8 := [180, 0, 7, 27, 28, 79, 42, 180, 0, 13, 27, 28, 156, 0, 7, 3, 167, 0, 4, 29, 79, 3, 54, 4]
abbrev dktX5_sheet_2 : List UInt8 := dkwX5_sheet_2 ++ dktX5_sheet_3
def dkwX5_sheet_1 : List UInt8 := [155, 0, 11, 29, 16, 16, 164, 0, 5, 2, 172, 28, 155, 0, 10, 29, 156, 0, 6, 16, 243, 172, 42]
abbrev dktX5_sheet_1 : List UInt8 := dkwX5_sheet_1 ++ dktX5_sheet_2
def dkwX5_sheet_0 : List UInt8 := [27, 184, 0, 71, 153, 0, 27, 28, 133, 20, 0, 75, 20, 0, 77, 184, 0, 65, 153, 0, 13, 28]
abbrev dktX5_sheet_0 : List UInt8 := dkwX5_sheet_0 ++ dktX5_sheet_1
theorem dksX5_sheet_0 : cX5_sheet.data.toList.drop 0 = dktX5_sheet_0 := by decide +kernel
theorem dksX5_sheet_1 : cX5_sheet.data.toList.drop 22 = dktX5_sheet_1 := dk_seg dksX5_sheet_0 22 rfl rfl
theorem dksX5_sheet_2 : cX5_sheet.data.toList.drop 45 = dktX5_sheet_2 := dk_seg dksX5_sheet_1 23 rfl rfl
theorem dksX5_sheet_3 : cX5_sheet.data.toList.drop 69 = dktX5_sheet_3 := dk_seg dksX5_sheet_2 24 rfl rfl
theorem dksX5_sheet_4 : cX5_sheet.data.toList.drop 92 = dktX5_sheet_4 := dk_seg dksX5_sheet_3 23 rfl rfl
theorem dX5_sheet_0 : decode cX5_sheet 0 = .ok (.iload_n 1, 1) := dk_27 (dk_at dksX5_sheet_0 0 rfl rfl)
theorem dX5_sheet_1 : decode cX5_sheet 1 = .ok (.invokestatic 71, 3) := dk_184 0 71 (dk_at dksX5_sheet_0 1 rfl rfl)
theorem dX5_sheet_4 : decode cX5_sheet 4 = .ok (.ifCond .eq 27, 3) := dk_153 0 27 (dk_at dksX5_sheet_0 4 rfl rfl)
theorem dX5_sheet_7 : decode cX5_sheet 7 = .ok (.iload_n 2, 1) := dk_28 (dk_at dksX5_sheet_0 7 rfl rfl)
theorem dX5_sheet_8 : decode cX5_sheet 8 = .ok (.i2l, 1) := dk_133 (dk_at dksX5_sheet_0 8 rfl rfl)
theorem dX5_sheet_9 : decode cX5_sheet 9 = .ok (.ldc2_w 75, 3) := dk_20 0 75 (dk_at dksX5_sheet_0 9 rfl rfl)
theorem dX5_sheet_12 : decode cX5_sheet 12 = .ok (.ldc2_w 77, 3) := dk_20 0 77 (dk_at dksX5_sheet_0 12 rfl rfl)
theorem dX5_sheet_15 : decode cX5_sheet 15 = .ok (.invokestatic 65, 3) := dk_184 0 65 (dk_at dksX5_sheet_0 15 rfl rfl)
theorem dX5_sheet_18 : decode cX5_sheet 18 = .ok (.ifCond .eq 13, 3) := dk_153 0 13 (dk_at dksX5_sheet_0 18 rfl rfl)
theorem dX5_sheet_21 : decode cX5_sheet 21 = .ok (.iload_n 2, 1) := dk_28 (dk_at dksX5_sheet_0 21 rfl rfl)
theorem dX5_sheet_22 : decode cX5_sheet 22 = .ok (.ifCond .lt 11, 3) := dk_155 0 11 (dk_at dksX5_sheet_1 0 rfl rfl)
theorem dX5_sheet_25 : decode cX5_sheet 25 = .ok (.iload_n 3, 1) := dk_29 (dk_at dksX5_sheet_1 3 rfl rfl)
theorem dX5_sheet_26 : decode cX5_sheet 26 = .ok (.bipush 16, 2) := dk_16 16 (dk_at dksX5_sheet_1 4 rfl rfl)
theorem dX5_sheet_28 : decode cX5_sheet 28 = .ok (.if_icmp .le 5, 3) := dk_164 0 5 (dk_at dksX5_sheet_1 6 rfl rfl)
theorem dX5_sheet_31 : decode cX5_sheet 31 = .ok (.iconst (-1), 1) := dk_2 (dk_at dksX5_sheet_1 9 rfl rfl)
theorem dX5_sheet_32 : decode cX5_sheet 32 = .ok (.ireturn, 1) := dk_172 (dk_at dksX5_sheet_1 10 rfl rfl)
theorem dX5_sheet_33 : decode cX5_sheet 33 = .ok (.iload_n 2, 1) := dk_28 (dk_at dksX5_sheet_1 11 rfl rfl)
theorem dX5_sheet_34 : decode cX5_sheet 34 = .ok (.ifCond .lt 10, 3) := dk_155 0 10 (dk_at dksX5_sheet_1 12 rfl rfl)
theorem dX5_sheet_37 : decode cX5_sheet 37 = .ok (.iload_n 3, 1) := dk_29 (dk_at dksX5_sheet_1 15 rfl rfl)
theorem dX5_sheet_38 : decode cX5_sheet 38 = .ok (.ifCond .ge 6, 3) := dk_156 0 6 (dk_at dksX5_sheet_1 16 rfl rfl)
theorem dX5_sheet_41 : decode cX5_sheet 41 = .ok (.bipush (-13), 2) := dk_16 243 (dk_at dksX5_sheet_1 19 rfl rfl)
theorem dX5_sheet_43 : decode cX5_sheet 43 = .ok (.ireturn, 1) := dk_172 (dk_at dksX5_sheet_1 21 rfl rfl)
theorem dX5_sheet_44 : decode cX5_sheet 44 = .ok (.aload_n 0, 1) := dk_42 (dk_at dksX5_sheet_1 22 rfl rfl)
theorem dX5_sheet_45 : decode cX5_sheet 45 = .ok (.getfield 7, 3) := dk_180 0 7 (dk_at dksX5_sheet_2 0 rfl rfl)
theorem dX5_sheet_48 : decode cX5_sheet 48 = .ok (.iload_n 1, 1) := dk_27 (dk_at dksX5_sheet_2 3 rfl rfl)
theorem dX5_sheet_49 : decode cX5_sheet 49 = .ok (.iload_n 2, 1) := dk_28 (dk_at dksX5_sheet_2 4 rfl rfl)
theorem dX5_sheet_50 : decode cX5_sheet 50 = .ok (.iastore, 1) := dk_79 (dk_at dksX5_sheet_2 5 rfl rfl)
theorem dX5_sheet_51 : decode cX5_sheet 51 = .ok (.aload_n 0, 1) := dk_42 (dk_at dksX5_sheet_2 6 rfl rfl)
theorem dX5_sheet_52 : decode cX5_sheet 52 = .ok (.getfield 13, 3) := dk_180 0 13 (dk_at dksX5_sheet_2 7 rfl rfl)
theorem dX5_sheet_55 : decode cX5_sheet 55 = .ok (.iload_n 1, 1) := dk_27 (dk_at dksX5_sheet_2 10 rfl rfl)
theorem dX5_sheet_56 : decode cX5_sheet 56 = .ok (.iload_n 2, 1) := dk_28 (dk_at dksX5_sheet_2 11 rfl rfl)
theorem dX5_sheet_57 : decode cX5_sheet 57 = .ok (.ifCond .ge 7, 3) := dk_156 0 7 (dk_at dksX5_sheet_2 12 rfl rfl)
theorem dX5_sheet_60 : decode cX5_sheet 60 = .ok (.iconst 0, 1) := dk_3 (dk_at dksX5_sheet_2 15 rfl rfl)
theorem dX5_sheet_61 : decode cX5_sheet 61 = .ok (.goto 4, 3) := dk_167 0 4 (dk_at dksX5_sheet_2 16 rfl rfl)
theorem dX5_sheet_64 : decode cX5_sheet 64 = .ok (.iload_n 3, 1) := dk_29 (dk_at dksX5_sheet_2 19 rfl rfl)
theorem dX5_sheet_65 : decode cX5_sheet 65 = .ok (.iastore, 1) := dk_79 (dk_at dksX5_sheet_2 20 rfl rfl)
theorem dX5_sheet_66 : decode cX5_sheet 66 = .ok (.iconst 0, 1) := dk_3 (dk_at dksX5_sheet_2 21 rfl rfl)
theorem dX5_sheet_67 : decode cX5_sheet 67 = .ok (.istore 4, 2) := dk_54 4 (dk_at dksX5_sheet_2 22 rfl rfl)
theorem dX5_sheet_69 : decode cX5_sheet 69 = .ok (.iload 4, 2) := dk_21 4 (dk_at dksX5_sheet_3 0 rfl rfl)
theorem dX5_sheet_71 : decode cX5_sheet 71 = .ok (.bipush 16, 2) := dk_16 16 (dk_at dksX5_sheet_3 2 rfl rfl)
theorem dX5_sheet_73 : decode cX5_sheet 73 = .ok (.if_icmp .ge 22, 3) := dk_162 0 22 (dk_at dksX5_sheet_3 4 rfl rfl)
theorem dX5_sheet_76 : decode cX5_sheet 76 = .ok (.aload_n 0, 1) := dk_42 (dk_at dksX5_sheet_3 7 rfl rfl)
theorem dX5_sheet_77 : decode cX5_sheet 77 = .ok (.getfield 16, 3) := dk_180 0 16 (dk_at dksX5_sheet_3 8 rfl rfl)
theorem dX5_sheet_80 : decode cX5_sheet 80 = .ok (.bipush 16, 2) := dk_16 16 (dk_at dksX5_sheet_3 11 rfl rfl)
theorem dX5_sheet_82 : decode cX5_sheet 82 = .ok (.iload_n 1, 1) := dk_27 (dk_at dksX5_sheet_3 13 rfl rfl)
theorem dX5_sheet_83 : decode cX5_sheet 83 = .ok (.imul, 1) := dk_104 (dk_at dksX5_sheet_3 14 rfl rfl)
theorem dX5_sheet_84 : decode cX5_sheet 84 = .ok (.iload 4, 2) := dk_21 4 (dk_at dksX5_sheet_3 15 rfl rfl)
theorem dX5_sheet_86 : decode cX5_sheet 86 = .ok (.iadd, 1) := dk_96 (dk_at dksX5_sheet_3 17 rfl rfl)
theorem dX5_sheet_87 : decode cX5_sheet 87 = .ok (.lconst 0, 1) := dk_9 (dk_at dksX5_sheet_3 18 rfl rfl)
theorem dX5_sheet_88 : decode cX5_sheet 88 = .ok (.lastore, 1) := dk_80 (dk_at dksX5_sheet_3 19 rfl rfl)
theorem dX5_sheet_89 : decode cX5_sheet 89 = .ok (.iinc 4 1, 3) := dk_132 4 1 (dk_at dksX5_sheet_3 20 rfl rfl)
theorem dX5_sheet_92 : decode cX5_sheet 92 = .ok (.goto (-23), 3) := dk_167 255 233 (dk_at dksX5_sheet_4 0 rfl rfl)
theorem dX5_sheet_95 : decode cX5_sheet 95 = .ok (.iconst 0, 1) := dk_3 (dk_at dksX5_sheet_4 3 rfl rfl)
theorem dX5_sheet_96 : decode cX5_sheet 96 = .ok (.ireturn, 1) := dk_172 (dk_at dksX5_sheet_4 4 rfl rfl)
abbrev cX5_isSheet : ByteArray := prog_9_method_4_code
def yX5_isSheet : MethodName := ⟨RX5, "isSheet", "(I)Z"⟩
def dkwX5_isSheet_0 : List UInt8 := [26, 133, 9, 20, 0, 63, 184, 0, 65, 172]
abbrev dktX5_isSheet_0 : List UInt8 := dkwX5_isSheet_0 ++ []
theorem dksX5_isSheet_0 : cX5_isSheet.data.toList.drop 0 = dktX5_isSheet_0 := by decide +kernel
theorem dX5_isSheet_0 : decode cX5_isSheet 0 = .ok (.iload_n 0, 1) := dk_26 (dk_at dksX5_isSheet_0 0 rfl rfl)
theorem dX5_isSheet_1 : decode cX5_isSheet 1 = .ok (.i2l, 1) := dk_133 (dk_at dksX5_isSheet_0 1 rfl rfl)
theorem dX5_isSheet_2 : decode cX5_isSheet 2 = .ok (.lconst 0, 1) := dk_9 (dk_at dksX5_isSheet_0 2 rfl rfl)
theorem dX5_isSheet_3 : decode cX5_isSheet 3 = .ok (.ldc2_w 63, 3) := dk_20 0 63 (dk_at dksX5_isSheet_0 3 rfl rfl)
theorem dX5_isSheet_6 : decode cX5_isSheet 6 = .ok (.invokestatic 65, 3) := dk_184 0 65 (dk_at dksX5_isSheet_0 6 rfl rfl)
theorem dX5_isSheet_9 : decode cX5_isSheet 9 = .ok (.ireturn, 1) := dk_172 (dk_at dksX5_isSheet_0 9 rfl rfl)
abbrev cX5_in : ByteArray := prog_9_method_3_code
def yX5_in : MethodName := ⟨RX5, "in", "(JJJ)Z"⟩
def dkwX5_in_0 : List UInt8 := [30, 32, 148, 155, 0, 14, 30, 22, 4, 148, 157, 0, 7, 4, 167, 0, 4, 3, 172]
abbrev dktX5_in_0 : List UInt8 := dkwX5_in_0 ++ []
theorem dksX5_in_0 : cX5_in.data.toList.drop 0 = dktX5_in_0 := by decide +kernel
theorem dX5_in_0 : decode cX5_in 0 = .ok (.lload_n 0, 1) := dk_30 (dk_at dksX5_in_0 0 rfl rfl)
theorem dX5_in_1 : decode cX5_in 1 = .ok (.lload_n 2, 1) := dk_32 (dk_at dksX5_in_0 1 rfl rfl)
theorem dX5_in_2 : decode cX5_in 2 = .ok (.lcmp, 1) := dk_148 (dk_at dksX5_in_0 2 rfl rfl)
theorem dX5_in_3 : decode cX5_in 3 = .ok (.ifCond .lt 14, 3) := dk_155 0 14 (dk_at dksX5_in_0 3 rfl rfl)
theorem dX5_in_6 : decode cX5_in 6 = .ok (.lload_n 0, 1) := dk_30 (dk_at dksX5_in_0 6 rfl rfl)
theorem dX5_in_7 : decode cX5_in 7 = .ok (.lload 4, 2) := dk_22 4 (dk_at dksX5_in_0 7 rfl rfl)
theorem dX5_in_9 : decode cX5_in 9 = .ok (.lcmp, 1) := dk_148 (dk_at dksX5_in_0 9 rfl rfl)
theorem dX5_in_10 : decode cX5_in 10 = .ok (.ifCond .gt 7, 3) := dk_157 0 7 (dk_at dksX5_in_0 10 rfl rfl)
theorem dX5_in_13 : decode cX5_in 13 = .ok (.iconst 1, 1) := dk_4 (dk_at dksX5_in_0 13 rfl rfl)
theorem dX5_in_14 : decode cX5_in 14 = .ok (.goto 4, 3) := dk_167 0 4 (dk_at dksX5_in_0 14 rfl rfl)
theorem dX5_in_17 : decode cX5_in 17 = .ok (.iconst 0, 1) := dk_3 (dk_at dksX5_in_0 17 rfl rfl)
theorem dX5_in_18 : decode cX5_in 18 = .ok (.ireturn, 1) := dk_172 (dk_at dksX5_in_0 18 rfl rfl)
abbrev cX5_put : ByteArray := prog_9_method_9_code
def yX5_put : MethodName := ⟨RX5, "put", "(IIJ)I"⟩
def dkwX5_put_1 : List UInt8 := [180, 0, 16, 16, 16, 27, 104, 28, 96, 42, 27, 33, 182, 0, 83, 80, 21, 5, 172]
abbrev dktX5_put_1 : List UInt8 := dkwX5_put_1 ++ []
def dkwX5_put_0 : List UInt8 := [27, 184, 0, 71, 154, 0, 5, 2, 172, 42, 27, 28, 4, 182, 0, 79, 54, 5, 21, 5, 154, 0, 20, 42]
abbrev dktX5_put_0 : List UInt8 := dkwX5_put_0 ++ dktX5_put_1
theorem dksX5_put_0 : cX5_put.data.toList.drop 0 = dktX5_put_0 := by decide +kernel
theorem dksX5_put_1 : cX5_put.data.toList.drop 24 = dktX5_put_1 := dk_seg dksX5_put_0 24 rfl rfl
theorem dX5_put_0 : decode cX5_put 0 = .ok (.iload_n 1, 1) := dk_27 (dk_at dksX5_put_0 0 rfl rfl)
theorem dX5_put_1 : decode cX5_put 1 = .ok (.invokestatic 71, 3) := dk_184 0 71 (dk_at dksX5_put_0 1 rfl rfl)
theorem dX5_put_4 : decode cX5_put 4 = .ok (.ifCond .ne 5, 3) := dk_154 0 5 (dk_at dksX5_put_0 4 rfl rfl)
theorem dX5_put_7 : decode cX5_put 7 = .ok (.iconst (-1), 1) := dk_2 (dk_at dksX5_put_0 7 rfl rfl)
theorem dX5_put_8 : decode cX5_put 8 = .ok (.ireturn, 1) := dk_172 (dk_at dksX5_put_0 8 rfl rfl)
theorem dX5_put_9 : decode cX5_put 9 = .ok (.aload_n 0, 1) := dk_42 (dk_at dksX5_put_0 9 rfl rfl)
theorem dX5_put_10 : decode cX5_put 10 = .ok (.iload_n 1, 1) := dk_27 (dk_at dksX5_put_0 10 rfl rfl)
theorem dX5_put_11 : decode cX5_put 11 = .ok (.iload_n 2, 1) := dk_28 (dk_at dksX5_put_0 11 rfl rfl)
theorem dX5_put_12 : decode cX5_put 12 = .ok (.iconst 1, 1) := dk_4 (dk_at dksX5_put_0 12 rfl rfl)
theorem dX5_put_13 : decode cX5_put 13 = .ok (.invokevirtual 79, 3) := dk_182 0 79 (dk_at dksX5_put_0 13 rfl rfl)
theorem dX5_put_16 : decode cX5_put 16 = .ok (.istore 5, 2) := dk_54 5 (dk_at dksX5_put_0 16 rfl rfl)
theorem dX5_put_18 : decode cX5_put 18 = .ok (.iload 5, 2) := dk_21 5 (dk_at dksX5_put_0 18 rfl rfl)
theorem dX5_put_20 : decode cX5_put 20 = .ok (.ifCond .ne 20, 3) := dk_154 0 20 (dk_at dksX5_put_0 20 rfl rfl)
theorem dX5_put_23 : decode cX5_put 23 = .ok (.aload_n 0, 1) := dk_42 (dk_at dksX5_put_0 23 rfl rfl)
theorem dX5_put_24 : decode cX5_put 24 = .ok (.getfield 16, 3) := dk_180 0 16 (dk_at dksX5_put_1 0 rfl rfl)
theorem dX5_put_27 : decode cX5_put 27 = .ok (.bipush 16, 2) := dk_16 16 (dk_at dksX5_put_1 3 rfl rfl)
theorem dX5_put_29 : decode cX5_put 29 = .ok (.iload_n 1, 1) := dk_27 (dk_at dksX5_put_1 5 rfl rfl)
theorem dX5_put_30 : decode cX5_put 30 = .ok (.imul, 1) := dk_104 (dk_at dksX5_put_1 6 rfl rfl)
theorem dX5_put_31 : decode cX5_put 31 = .ok (.iload_n 2, 1) := dk_28 (dk_at dksX5_put_1 7 rfl rfl)
theorem dX5_put_32 : decode cX5_put 32 = .ok (.iadd, 1) := dk_96 (dk_at dksX5_put_1 8 rfl rfl)
theorem dX5_put_33 : decode cX5_put 33 = .ok (.aload_n 0, 1) := dk_42 (dk_at dksX5_put_1 9 rfl rfl)
theorem dX5_put_34 : decode cX5_put 34 = .ok (.iload_n 1, 1) := dk_27 (dk_at dksX5_put_1 10 rfl rfl)
theorem dX5_put_35 : decode cX5_put 35 = .ok (.lload_n 3, 1) := dk_33 (dk_at dksX5_put_1 11 rfl rfl)
theorem dX5_put_36 : decode cX5_put 36 = .ok (.invokevirtual 83, 3) := dk_182 0 83 (dk_at dksX5_put_1 12 rfl rfl)
theorem dX5_put_39 : decode cX5_put 39 = .ok (.lastore, 1) := dk_80 (dk_at dksX5_put_1 15 rfl rfl)
theorem dX5_put_40 : decode cX5_put 40 = .ok (.iload 5, 2) := dk_21 5 (dk_at dksX5_put_1 16 rfl rfl)
theorem dX5_put_42 : decode cX5_put 42 = .ok (.ireturn, 1) := dk_172 (dk_at dksX5_put_1 18 rfl rfl)
abbrev cX5_against : ByteArray := prog_9_method_8_code
def yX5_against : MethodName := ⟨RX5, "against", "(III)I"⟩
def dkwX5_against_1 : List UInt8 := [180, 0, 13, 27, 46, 133, 148, 158, 0, 8, 16, 244, 167, 0, 4, 3, 172]
abbrev dktX5_against_1 : List UInt8 := dkwX5_against_1 ++ []
def dkwX5_against_0 : List UInt8 := [42, 180, 0, 7, 27, 46, 156, 0, 8, 16, 245, 167, 0, 29, 28, 155, 0, 19, 28, 133, 29, 133, 97, 42]
abbrev dktX5_against_0 : List UInt8 := dkwX5_against_0 ++ dktX5_against_1
theorem dksX5_against_0 : cX5_against.data.toList.drop 0 = dktX5_against_0 := by decide +kernel
theorem dksX5_against_1 : cX5_against.data.toList.drop 24 = dktX5_against_1 := dk_seg dksX5_against_0 24 rfl rfl
theorem dX5_against_0 : decode cX5_against 0 = .ok (.aload_n 0, 1) := dk_42 (dk_at dksX5_against_0 0 rfl rfl)
theorem dX5_against_1 : decode cX5_against 1 = .ok (.getfield 7, 3) := dk_180 0 7 (dk_at dksX5_against_0 1 rfl rfl)
theorem dX5_against_4 : decode cX5_against 4 = .ok (.iload_n 1, 1) := dk_27 (dk_at dksX5_against_0 4 rfl rfl)
theorem dX5_against_5 : decode cX5_against 5 = .ok (.iaload, 1) := dk_46 (dk_at dksX5_against_0 5 rfl rfl)
theorem dX5_against_6 : decode cX5_against 6 = .ok (.ifCond .ge 8, 3) := dk_156 0 8 (dk_at dksX5_against_0 6 rfl rfl)
theorem dX5_against_9 : decode cX5_against 9 = .ok (.bipush (-11), 2) := dk_16 245 (dk_at dksX5_against_0 9 rfl rfl)
theorem dX5_against_11 : decode cX5_against 11 = .ok (.goto 29, 3) := dk_167 0 29 (dk_at dksX5_against_0 11 rfl rfl)
theorem dX5_against_14 : decode cX5_against 14 = .ok (.iload_n 2, 1) := dk_28 (dk_at dksX5_against_0 14 rfl rfl)
theorem dX5_against_15 : decode cX5_against 15 = .ok (.ifCond .lt 19, 3) := dk_155 0 19 (dk_at dksX5_against_0 15 rfl rfl)
theorem dX5_against_18 : decode cX5_against 18 = .ok (.iload_n 2, 1) := dk_28 (dk_at dksX5_against_0 18 rfl rfl)
theorem dX5_against_19 : decode cX5_against 19 = .ok (.i2l, 1) := dk_133 (dk_at dksX5_against_0 19 rfl rfl)
theorem dX5_against_20 : decode cX5_against 20 = .ok (.iload_n 3, 1) := dk_29 (dk_at dksX5_against_0 20 rfl rfl)
theorem dX5_against_21 : decode cX5_against 21 = .ok (.i2l, 1) := dk_133 (dk_at dksX5_against_0 21 rfl rfl)
theorem dX5_against_22 : decode cX5_against 22 = .ok (.ladd, 1) := dk_97 (dk_at dksX5_against_0 22 rfl rfl)
theorem dX5_against_23 : decode cX5_against 23 = .ok (.aload_n 0, 1) := dk_42 (dk_at dksX5_against_0 23 rfl rfl)
theorem dX5_against_24 : decode cX5_against 24 = .ok (.getfield 13, 3) := dk_180 0 13 (dk_at dksX5_against_1 0 rfl rfl)
theorem dX5_against_27 : decode cX5_against 27 = .ok (.iload_n 1, 1) := dk_27 (dk_at dksX5_against_1 3 rfl rfl)
theorem dX5_against_28 : decode cX5_against 28 = .ok (.iaload, 1) := dk_46 (dk_at dksX5_against_1 4 rfl rfl)
theorem dX5_against_29 : decode cX5_against 29 = .ok (.i2l, 1) := dk_133 (dk_at dksX5_against_1 5 rfl rfl)
theorem dX5_against_30 : decode cX5_against 30 = .ok (.lcmp, 1) := dk_148 (dk_at dksX5_against_1 6 rfl rfl)
theorem dX5_against_31 : decode cX5_against 31 = .ok (.ifCond .le 8, 3) := dk_158 0 8 (dk_at dksX5_against_1 7 rfl rfl)
theorem dX5_against_34 : decode cX5_against 34 = .ok (.bipush (-12), 2) := dk_16 244 (dk_at dksX5_against_1 10 rfl rfl)
theorem dX5_against_36 : decode cX5_against 36 = .ok (.goto 4, 3) := dk_167 0 4 (dk_at dksX5_against_1 12 rfl rfl)
theorem dX5_against_39 : decode cX5_against 39 = .ok (.iconst 0, 1) := dk_3 (dk_at dksX5_against_1 15 rfl rfl)
theorem dX5_against_40 : decode cX5_against 40 = .ok (.ireturn, 1) := dk_172 (dk_at dksX5_against_1 16 rfl rfl)
abbrev cX5_cut : ByteArray := prog_9_method_7_code
def yX5_cut : MethodName := ⟨RX5, "cut", "(IJ)J"⟩
def dkwX5_cut_1 : List UInt8 := [160, 0, 9, 32, 136, 133, 167, 0, 4, 32, 173]
abbrev dktX5_cut_1 : List UInt8 := dkwX5_cut_1 ++ []
def dkwX5_cut_0 : List UInt8 := [42, 180, 0, 7, 27, 46, 154, 0, 10, 32, 136, 145, 133, 167, 0, 20, 42, 180, 0, 7, 27, 46, 4]
abbrev dktX5_cut_0 : List UInt8 := dkwX5_cut_0 ++ dktX5_cut_1
theorem dksX5_cut_0 : cX5_cut.data.toList.drop 0 = dktX5_cut_0 := by decide +kernel
theorem dksX5_cut_1 : cX5_cut.data.toList.drop 23 = dktX5_cut_1 := dk_seg dksX5_cut_0 23 rfl rfl
theorem dX5_cut_0 : decode cX5_cut 0 = .ok (.aload_n 0, 1) := dk_42 (dk_at dksX5_cut_0 0 rfl rfl)
theorem dX5_cut_1 : decode cX5_cut 1 = .ok (.getfield 7, 3) := dk_180 0 7 (dk_at dksX5_cut_0 1 rfl rfl)
theorem dX5_cut_4 : decode cX5_cut 4 = .ok (.iload_n 1, 1) := dk_27 (dk_at dksX5_cut_0 4 rfl rfl)
theorem dX5_cut_5 : decode cX5_cut 5 = .ok (.iaload, 1) := dk_46 (dk_at dksX5_cut_0 5 rfl rfl)
theorem dX5_cut_6 : decode cX5_cut 6 = .ok (.ifCond .ne 10, 3) := dk_154 0 10 (dk_at dksX5_cut_0 6 rfl rfl)
theorem dX5_cut_9 : decode cX5_cut 9 = .ok (.lload_n 2, 1) := dk_32 (dk_at dksX5_cut_0 9 rfl rfl)
theorem dX5_cut_10 : decode cX5_cut 10 = .ok (.l2i, 1) := dk_136 (dk_at dksX5_cut_0 10 rfl rfl)
theorem dX5_cut_11 : decode cX5_cut 11 = .ok (.i2b, 1) := dk_145 (dk_at dksX5_cut_0 11 rfl rfl)
theorem dX5_cut_12 : decode cX5_cut 12 = .ok (.i2l, 1) := dk_133 (dk_at dksX5_cut_0 12 rfl rfl)
theorem dX5_cut_13 : decode cX5_cut 13 = .ok (.goto 20, 3) := dk_167 0 20 (dk_at dksX5_cut_0 13 rfl rfl)
theorem dX5_cut_16 : decode cX5_cut 16 = .ok (.aload_n 0, 1) := dk_42 (dk_at dksX5_cut_0 16 rfl rfl)
theorem dX5_cut_17 : decode cX5_cut 17 = .ok (.getfield 7, 3) := dk_180 0 7 (dk_at dksX5_cut_0 17 rfl rfl)
theorem dX5_cut_20 : decode cX5_cut 20 = .ok (.iload_n 1, 1) := dk_27 (dk_at dksX5_cut_0 20 rfl rfl)
theorem dX5_cut_21 : decode cX5_cut 21 = .ok (.iaload, 1) := dk_46 (dk_at dksX5_cut_0 21 rfl rfl)
theorem dX5_cut_22 : decode cX5_cut 22 = .ok (.iconst 1, 1) := dk_4 (dk_at dksX5_cut_0 22 rfl rfl)
theorem dX5_cut_23 : decode cX5_cut 23 = .ok (.if_icmp .ne 9, 3) := dk_160 0 9 (dk_at dksX5_cut_1 0 rfl rfl)
theorem dX5_cut_26 : decode cX5_cut 26 = .ok (.lload_n 2, 1) := dk_32 (dk_at dksX5_cut_1 3 rfl rfl)
theorem dX5_cut_27 : decode cX5_cut 27 = .ok (.l2i, 1) := dk_136 (dk_at dksX5_cut_1 4 rfl rfl)
theorem dX5_cut_28 : decode cX5_cut 28 = .ok (.i2l, 1) := dk_133 (dk_at dksX5_cut_1 5 rfl rfl)
theorem dX5_cut_29 : decode cX5_cut 29 = .ok (.goto 4, 3) := dk_167 0 4 (dk_at dksX5_cut_1 6 rfl rfl)
theorem dX5_cut_32 : decode cX5_cut 32 = .ok (.lload_n 2, 1) := dk_32 (dk_at dksX5_cut_1 9 rfl rfl)
theorem dX5_cut_33 : decode cX5_cut 33 = .ok (.lreturn, 1) := dk_173 (dk_at dksX5_cut_1 10 rfl rfl)
abbrev cX5_copy : ByteArray := prog_9_method_10_code
def yX5_copy : MethodName := ⟨RX5, "copy", "(IIIII)I"⟩
def dkwX5_copy_6 : List UInt8 := [29, 104, 21, 4, 96, 21, 6, 96, 42, 180, 0, 29, 21, 6, 47, 80, 132, 6, 1, 167, 255, 224, 3, 172]
abbrev dktX5_copy_6 : List UInt8 := dkwX5_copy_6 ++ []
def dkwX5_copy_5 : List UInt8 := [47, 80, 132, 6, 1, 167, 255, 225, 3, 54, 6, 21, 6, 21, 5, 162, 0, 31, 42, 180, 0, 16, 16, 16]
abbrev dktX5_copy_5 : List UInt8 := dkwX5_copy_5 ++ dktX5_copy_6
def dkwX5_copy_4 : List UInt8 := [21, 5, 162, 0, 30, 42, 180, 0, 29, 21, 6, 42, 180, 0, 16, 16, 16, 27, 104, 28, 96, 21, 6, 96]
abbrev dktX5_copy_4 : List UInt8 := dkwX5_copy_4 ++ dktX5_copy_5
def dkwX5_copy_3 : List UInt8 := [154, 0, 15, 42, 29, 21, 4, 21, 5, 182, 0, 79, 153, 0, 6, 16, 244, 172, 3, 54, 6, 21, 6]
abbrev dktX5_copy_3 : List UInt8 := dkwX5_copy_3 ++ dktX5_copy_4
def dkwX5_copy_2 : List UInt8 := [180, 0, 7, 29, 46, 159, 0, 6, 16, 242, 172, 21, 5, 155, 0, 26, 42, 27, 28, 21, 5, 182, 0, 79]
abbrev dktX5_copy_2 : List UInt8 := dkwX5_copy_2 ++ dktX5_copy_3
def dkwX5_copy_1 : List UInt8 := [155, 0, 12, 42, 180, 0, 7, 29, 46, 156, 0, 6, 16, 245, 172, 42, 180, 0, 7, 27, 46, 42]
abbrev dktX5_copy_1 : List UInt8 := dkwX5_copy_1 ++ dktX5_copy_2
def dkwX5_copy_0 : List UInt8 := [27, 184, 0, 71, 153, 0, 10, 29, 184, 0, 71, 154, 0, 5, 2, 172, 42, 180, 0, 7, 27, 46]
abbrev dktX5_copy_0 : List UInt8 := dkwX5_copy_0 ++ dktX5_copy_1
theorem dksX5_copy_0 : cX5_copy.data.toList.drop 0 = dktX5_copy_0 := by decide +kernel
theorem dksX5_copy_1 : cX5_copy.data.toList.drop 22 = dktX5_copy_1 := dk_seg dksX5_copy_0 22 rfl rfl
theorem dksX5_copy_2 : cX5_copy.data.toList.drop 44 = dktX5_copy_2 := dk_seg dksX5_copy_1 22 rfl rfl
theorem dksX5_copy_3 : cX5_copy.data.toList.drop 68 = dktX5_copy_3 := dk_seg dksX5_copy_2 24 rfl rfl
theorem dksX5_copy_4 : cX5_copy.data.toList.drop 91 = dktX5_copy_4 := dk_seg dksX5_copy_3 23 rfl rfl
theorem dksX5_copy_5 : cX5_copy.data.toList.drop 115 = dktX5_copy_5 := dk_seg dksX5_copy_4 24 rfl rfl
theorem dksX5_copy_6 : cX5_copy.data.toList.drop 139 = dktX5_copy_6 := dk_seg dksX5_copy_5 24 rfl rfl
theorem dX5_copy_0 : decode cX5_copy 0 = .ok (.iload_n 1, 1) := dk_27 (dk_at dksX5_copy_0 0 rfl rfl)
theorem dX5_copy_1 : decode cX5_copy 1 = .ok (.invokestatic 71, 3) := dk_184 0 71 (dk_at dksX5_copy_0 1 rfl rfl)
theorem dX5_copy_4 : decode cX5_copy 4 = .ok (.ifCond .eq 10, 3) := dk_153 0 10 (dk_at dksX5_copy_0 4 rfl rfl)
theorem dX5_copy_7 : decode cX5_copy 7 = .ok (.iload_n 3, 1) := dk_29 (dk_at dksX5_copy_0 7 rfl rfl)
theorem dX5_copy_8 : decode cX5_copy 8 = .ok (.invokestatic 71, 3) := dk_184 0 71 (dk_at dksX5_copy_0 8 rfl rfl)
theorem dX5_copy_11 : decode cX5_copy 11 = .ok (.ifCond .ne 5, 3) := dk_154 0 5 (dk_at dksX5_copy_0 11 rfl rfl)
theorem dX5_copy_14 : decode cX5_copy 14 = .ok (.iconst (-1), 1) := dk_2 (dk_at dksX5_copy_0 14 rfl rfl)
theorem dX5_copy_15 : decode cX5_copy 15 = .ok (.ireturn, 1) := dk_172 (dk_at dksX5_copy_0 15 rfl rfl)
theorem dX5_copy_16 : decode cX5_copy 16 = .ok (.aload_n 0, 1) := dk_42 (dk_at dksX5_copy_0 16 rfl rfl)
theorem dX5_copy_17 : decode cX5_copy 17 = .ok (.getfield 7, 3) := dk_180 0 7 (dk_at dksX5_copy_0 17 rfl rfl)
theorem dX5_copy_20 : decode cX5_copy 20 = .ok (.iload_n 1, 1) := dk_27 (dk_at dksX5_copy_0 20 rfl rfl)
theorem dX5_copy_21 : decode cX5_copy 21 = .ok (.iaload, 1) := dk_46 (dk_at dksX5_copy_0 21 rfl rfl)
theorem dX5_copy_22 : decode cX5_copy 22 = .ok (.ifCond .lt 12, 3) := dk_155 0 12 (dk_at dksX5_copy_1 0 rfl rfl)
theorem dX5_copy_25 : decode cX5_copy 25 = .ok (.aload_n 0, 1) := dk_42 (dk_at dksX5_copy_1 3 rfl rfl)
theorem dX5_copy_26 : decode cX5_copy 26 = .ok (.getfield 7, 3) := dk_180 0 7 (dk_at dksX5_copy_1 4 rfl rfl)
theorem dX5_copy_29 : decode cX5_copy 29 = .ok (.iload_n 3, 1) := dk_29 (dk_at dksX5_copy_1 7 rfl rfl)
theorem dX5_copy_30 : decode cX5_copy 30 = .ok (.iaload, 1) := dk_46 (dk_at dksX5_copy_1 8 rfl rfl)
theorem dX5_copy_31 : decode cX5_copy 31 = .ok (.ifCond .ge 6, 3) := dk_156 0 6 (dk_at dksX5_copy_1 9 rfl rfl)
theorem dX5_copy_34 : decode cX5_copy 34 = .ok (.bipush (-11), 2) := dk_16 245 (dk_at dksX5_copy_1 12 rfl rfl)
theorem dX5_copy_36 : decode cX5_copy 36 = .ok (.ireturn, 1) := dk_172 (dk_at dksX5_copy_1 14 rfl rfl)
theorem dX5_copy_37 : decode cX5_copy 37 = .ok (.aload_n 0, 1) := dk_42 (dk_at dksX5_copy_1 15 rfl rfl)
theorem dX5_copy_38 : decode cX5_copy 38 = .ok (.getfield 7, 3) := dk_180 0 7 (dk_at dksX5_copy_1 16 rfl rfl)
theorem dX5_copy_41 : decode cX5_copy 41 = .ok (.iload_n 1, 1) := dk_27 (dk_at dksX5_copy_1 19 rfl rfl)
theorem dX5_copy_42 : decode cX5_copy 42 = .ok (.iaload, 1) := dk_46 (dk_at dksX5_copy_1 20 rfl rfl)
theorem dX5_copy_43 : decode cX5_copy 43 = .ok (.aload_n 0, 1) := dk_42 (dk_at dksX5_copy_1 21 rfl rfl)
theorem dX5_copy_44 : decode cX5_copy 44 = .ok (.getfield 7, 3) := dk_180 0 7 (dk_at dksX5_copy_2 0 rfl rfl)
theorem dX5_copy_47 : decode cX5_copy 47 = .ok (.iload_n 3, 1) := dk_29 (dk_at dksX5_copy_2 3 rfl rfl)
theorem dX5_copy_48 : decode cX5_copy 48 = .ok (.iaload, 1) := dk_46 (dk_at dksX5_copy_2 4 rfl rfl)
theorem dX5_copy_49 : decode cX5_copy 49 = .ok (.if_icmp .eq 6, 3) := dk_159 0 6 (dk_at dksX5_copy_2 5 rfl rfl)
theorem dX5_copy_52 : decode cX5_copy 52 = .ok (.bipush (-14), 2) := dk_16 242 (dk_at dksX5_copy_2 8 rfl rfl)
theorem dX5_copy_54 : decode cX5_copy 54 = .ok (.ireturn, 1) := dk_172 (dk_at dksX5_copy_2 10 rfl rfl)
theorem dX5_copy_55 : decode cX5_copy 55 = .ok (.iload 5, 2) := dk_21 5 (dk_at dksX5_copy_2 11 rfl rfl)
theorem dX5_copy_57 : decode cX5_copy 57 = .ok (.ifCond .lt 26, 3) := dk_155 0 26 (dk_at dksX5_copy_2 13 rfl rfl)
theorem dX5_copy_60 : decode cX5_copy 60 = .ok (.aload_n 0, 1) := dk_42 (dk_at dksX5_copy_2 16 rfl rfl)
theorem dX5_copy_61 : decode cX5_copy 61 = .ok (.iload_n 1, 1) := dk_27 (dk_at dksX5_copy_2 17 rfl rfl)
theorem dX5_copy_62 : decode cX5_copy 62 = .ok (.iload_n 2, 1) := dk_28 (dk_at dksX5_copy_2 18 rfl rfl)
theorem dX5_copy_63 : decode cX5_copy 63 = .ok (.iload 5, 2) := dk_21 5 (dk_at dksX5_copy_2 19 rfl rfl)
theorem dX5_copy_65 : decode cX5_copy 65 = .ok (.invokevirtual 79, 3) := dk_182 0 79 (dk_at dksX5_copy_2 21 rfl rfl)
theorem dX5_copy_68 : decode cX5_copy 68 = .ok (.ifCond .ne 15, 3) := dk_154 0 15 (dk_at dksX5_copy_3 0 rfl rfl)
theorem dX5_copy_71 : decode cX5_copy 71 = .ok (.aload_n 0, 1) := dk_42 (dk_at dksX5_copy_3 3 rfl rfl)
theorem dX5_copy_72 : decode cX5_copy 72 = .ok (.iload_n 3, 1) := dk_29 (dk_at dksX5_copy_3 4 rfl rfl)
theorem dX5_copy_73 : decode cX5_copy 73 = .ok (.iload 4, 2) := dk_21 4 (dk_at dksX5_copy_3 5 rfl rfl)
theorem dX5_copy_75 : decode cX5_copy 75 = .ok (.iload 5, 2) := dk_21 5 (dk_at dksX5_copy_3 7 rfl rfl)
theorem dX5_copy_77 : decode cX5_copy 77 = .ok (.invokevirtual 79, 3) := dk_182 0 79 (dk_at dksX5_copy_3 9 rfl rfl)
theorem dX5_copy_80 : decode cX5_copy 80 = .ok (.ifCond .eq 6, 3) := dk_153 0 6 (dk_at dksX5_copy_3 12 rfl rfl)
theorem dX5_copy_83 : decode cX5_copy 83 = .ok (.bipush (-12), 2) := dk_16 244 (dk_at dksX5_copy_3 15 rfl rfl)
theorem dX5_copy_85 : decode cX5_copy 85 = .ok (.ireturn, 1) := dk_172 (dk_at dksX5_copy_3 17 rfl rfl)
theorem dX5_copy_86 : decode cX5_copy 86 = .ok (.iconst 0, 1) := dk_3 (dk_at dksX5_copy_3 18 rfl rfl)
theorem dX5_copy_87 : decode cX5_copy 87 = .ok (.istore 6, 2) := dk_54 6 (dk_at dksX5_copy_3 19 rfl rfl)
theorem dX5_copy_89 : decode cX5_copy 89 = .ok (.iload 6, 2) := dk_21 6 (dk_at dksX5_copy_3 21 rfl rfl)
theorem dX5_copy_91 : decode cX5_copy 91 = .ok (.iload 5, 2) := dk_21 5 (dk_at dksX5_copy_4 0 rfl rfl)
theorem dX5_copy_93 : decode cX5_copy 93 = .ok (.if_icmp .ge 30, 3) := dk_162 0 30 (dk_at dksX5_copy_4 2 rfl rfl)
theorem dX5_copy_96 : decode cX5_copy 96 = .ok (.aload_n 0, 1) := dk_42 (dk_at dksX5_copy_4 5 rfl rfl)
theorem dX5_copy_97 : decode cX5_copy 97 = .ok (.getfield 29, 3) := dk_180 0 29 (dk_at dksX5_copy_4 6 rfl rfl)
theorem dX5_copy_100 : decode cX5_copy 100 = .ok (.iload 6, 2) := dk_21 6 (dk_at dksX5_copy_4 9 rfl rfl)
theorem dX5_copy_102 : decode cX5_copy 102 = .ok (.aload_n 0, 1) := dk_42 (dk_at dksX5_copy_4 11 rfl rfl)
theorem dX5_copy_103 : decode cX5_copy 103 = .ok (.getfield 16, 3) := dk_180 0 16 (dk_at dksX5_copy_4 12 rfl rfl)
theorem dX5_copy_106 : decode cX5_copy 106 = .ok (.bipush 16, 2) := dk_16 16 (dk_at dksX5_copy_4 15 rfl rfl)
theorem dX5_copy_108 : decode cX5_copy 108 = .ok (.iload_n 1, 1) := dk_27 (dk_at dksX5_copy_4 17 rfl rfl)
theorem dX5_copy_109 : decode cX5_copy 109 = .ok (.imul, 1) := dk_104 (dk_at dksX5_copy_4 18 rfl rfl)
theorem dX5_copy_110 : decode cX5_copy 110 = .ok (.iload_n 2, 1) := dk_28 (dk_at dksX5_copy_4 19 rfl rfl)
theorem dX5_copy_111 : decode cX5_copy 111 = .ok (.iadd, 1) := dk_96 (dk_at dksX5_copy_4 20 rfl rfl)
theorem dX5_copy_112 : decode cX5_copy 112 = .ok (.iload 6, 2) := dk_21 6 (dk_at dksX5_copy_4 21 rfl rfl)
theorem dX5_copy_114 : decode cX5_copy 114 = .ok (.iadd, 1) := dk_96 (dk_at dksX5_copy_4 23 rfl rfl)
theorem dX5_copy_115 : decode cX5_copy 115 = .ok (.laload, 1) := dk_47 (dk_at dksX5_copy_5 0 rfl rfl)
theorem dX5_copy_116 : decode cX5_copy 116 = .ok (.lastore, 1) := dk_80 (dk_at dksX5_copy_5 1 rfl rfl)
theorem dX5_copy_117 : decode cX5_copy 117 = .ok (.iinc 6 1, 3) := dk_132 6 1 (dk_at dksX5_copy_5 2 rfl rfl)
theorem dX5_copy_120 : decode cX5_copy 120 = .ok (.goto (-31), 3) := dk_167 255 225 (dk_at dksX5_copy_5 5 rfl rfl)
theorem dX5_copy_123 : decode cX5_copy 123 = .ok (.iconst 0, 1) := dk_3 (dk_at dksX5_copy_5 8 rfl rfl)
theorem dX5_copy_124 : decode cX5_copy 124 = .ok (.istore 6, 2) := dk_54 6 (dk_at dksX5_copy_5 9 rfl rfl)
theorem dX5_copy_126 : decode cX5_copy 126 = .ok (.iload 6, 2) := dk_21 6 (dk_at dksX5_copy_5 11 rfl rfl)
theorem dX5_copy_128 : decode cX5_copy 128 = .ok (.iload 5, 2) := dk_21 5 (dk_at dksX5_copy_5 13 rfl rfl)
theorem dX5_copy_130 : decode cX5_copy 130 = .ok (.if_icmp .ge 31, 3) := dk_162 0 31 (dk_at dksX5_copy_5 15 rfl rfl)
theorem dX5_copy_133 : decode cX5_copy 133 = .ok (.aload_n 0, 1) := dk_42 (dk_at dksX5_copy_5 18 rfl rfl)
theorem dX5_copy_134 : decode cX5_copy 134 = .ok (.getfield 16, 3) := dk_180 0 16 (dk_at dksX5_copy_5 19 rfl rfl)
theorem dX5_copy_137 : decode cX5_copy 137 = .ok (.bipush 16, 2) := dk_16 16 (dk_at dksX5_copy_5 22 rfl rfl)
theorem dX5_copy_139 : decode cX5_copy 139 = .ok (.iload_n 3, 1) := dk_29 (dk_at dksX5_copy_6 0 rfl rfl)
theorem dX5_copy_140 : decode cX5_copy 140 = .ok (.imul, 1) := dk_104 (dk_at dksX5_copy_6 1 rfl rfl)
theorem dX5_copy_141 : decode cX5_copy 141 = .ok (.iload 4, 2) := dk_21 4 (dk_at dksX5_copy_6 2 rfl rfl)
theorem dX5_copy_143 : decode cX5_copy 143 = .ok (.iadd, 1) := dk_96 (dk_at dksX5_copy_6 4 rfl rfl)
theorem dX5_copy_144 : decode cX5_copy 144 = .ok (.iload 6, 2) := dk_21 6 (dk_at dksX5_copy_6 5 rfl rfl)
theorem dX5_copy_146 : decode cX5_copy 146 = .ok (.iadd, 1) := dk_96 (dk_at dksX5_copy_6 7 rfl rfl)
theorem dX5_copy_147 : decode cX5_copy 147 = .ok (.aload_n 0, 1) := dk_42 (dk_at dksX5_copy_6 8 rfl rfl)
theorem dX5_copy_148 : decode cX5_copy 148 = .ok (.getfield 29, 3) := dk_180 0 29 (dk_at dksX5_copy_6 9 rfl rfl)
theorem dX5_copy_151 : decode cX5_copy 151 = .ok (.iload 6, 2) := dk_21 6 (dk_at dksX5_copy_6 12 rfl rfl)
theorem dX5_copy_153 : decode cX5_copy 153 = .ok (.laload, 1) := dk_47 (dk_at dksX5_copy_6 14 rfl rfl)
theorem dX5_copy_154 : decode cX5_copy 154 = .ok (.lastore, 1) := dk_80 (dk_at dksX5_copy_6 15 rfl rfl)
theorem dX5_copy_155 : decode cX5_copy 155 = .ok (.iinc 6 1, 3) := dk_132 6 1 (dk_at dksX5_copy_6 16 rfl rfl)
theorem dX5_copy_158 : decode cX5_copy 158 = .ok (.goto (-32), 3) := dk_167 255 224 (dk_at dksX5_copy_6 19 rfl rfl)
theorem dX5_copy_161 : decode cX5_copy 161 = .ok (.iconst 0, 1) := dk_3 (dk_at dksX5_copy_6 22 rfl rfl)
theorem dX5_copy_162 : decode cX5_copy 162 = .ok (.ireturn, 1) := dk_172 (dk_at dksX5_copy_6 23 rfl rfl)
abbrev cX5_read : ByteArray := prog_9_method_12_code
def yX5_read : MethodName := ⟨RX5, "read", "(III)I"⟩
def dkwX5_read_6 : List UInt8 := [21, 5, 21, 6, 96, 47, 136, 79, 132, 6, 1, 167, 255, 225, 3, 172]
abbrev dktX5_read_6 : List UInt8 := dkwX5_read_6 ++ []
def dkwX5_read_5 : List UInt8 := [3, 54, 6, 21, 6, 7, 162, 0, 31, 42, 180, 0, 20, 7, 27, 104, 21, 6, 96, 42, 180, 0, 16]
abbrev dktX5_read_5 : List UInt8 := dkwX5_read_5 ++ dktX5_read_6
def dkwX5_read_4 : List UInt8 := [180, 0, 16, 21, 5, 21, 6, 96, 47, 184, 0, 94, 154, 0, 6, 16, 240, 172, 132, 6, 1, 167, 255, 228]
abbrev dktX5_read_4 : List UInt8 := dkwX5_read_4 ++ dktX5_read_5
def dkwX5_read_3 : List UInt8 := [21, 5, 6, 96, 47, 184, 0, 59, 154, 0, 6, 16, 241, 172, 3, 54, 6, 21, 6, 7, 162, 0, 28, 42]
abbrev dktX5_read_3 : List UInt8 := dkwX5_read_3 ++ dktX5_read_4
def dkwX5_read_2 : List UInt8 := [47, 42, 180, 0, 16, 21, 5, 4, 96, 47, 42, 180, 0, 16, 21, 5, 5, 96, 47, 42, 180, 0, 16]
abbrev dktX5_read_2 : List UInt8 := dkwX5_read_2 ++ dktX5_read_3
def dkwX5_read_1 : List UInt8 := [54, 4, 21, 4, 153, 0, 6, 21, 4, 172, 16, 16, 28, 104, 29, 96, 54, 5, 42, 180, 0, 16, 21, 5]
abbrev dktX5_read_1 : List UInt8 := dkwX5_read_1 ++ dktX5_read_2
def dkwX5_read_0 : List UInt8 := [27, 184, 0, 91, 153, 0, 10, 28, 184, 0, 71, 154, 0, 5, 2, 172, 42, 28, 29, 7, 182, 0, 79]
abbrev dktX5_read_0 : List UInt8 := dkwX5_read_0 ++ dktX5_read_1
theorem dksX5_read_0 : cX5_read.data.toList.drop 0 = dktX5_read_0 := by decide +kernel
theorem dksX5_read_1 : cX5_read.data.toList.drop 23 = dktX5_read_1 := dk_seg dksX5_read_0 23 rfl rfl
theorem dksX5_read_2 : cX5_read.data.toList.drop 47 = dktX5_read_2 := dk_seg dksX5_read_1 24 rfl rfl
theorem dksX5_read_3 : cX5_read.data.toList.drop 70 = dktX5_read_3 := dk_seg dksX5_read_2 23 rfl rfl
theorem dksX5_read_4 : cX5_read.data.toList.drop 94 = dktX5_read_4 := dk_seg dksX5_read_3 24 rfl rfl
theorem dksX5_read_5 : cX5_read.data.toList.drop 118 = dktX5_read_5 := dk_seg dksX5_read_4 24 rfl rfl
theorem dksX5_read_6 : cX5_read.data.toList.drop 141 = dktX5_read_6 := dk_seg dksX5_read_5 23 rfl rfl
theorem dX5_read_0 : decode cX5_read 0 = .ok (.iload_n 1, 1) := dk_27 (dk_at dksX5_read_0 0 rfl rfl)
theorem dX5_read_1 : decode cX5_read 1 = .ok (.invokestatic 91, 3) := dk_184 0 91 (dk_at dksX5_read_0 1 rfl rfl)
theorem dX5_read_4 : decode cX5_read 4 = .ok (.ifCond .eq 10, 3) := dk_153 0 10 (dk_at dksX5_read_0 4 rfl rfl)
theorem dX5_read_7 : decode cX5_read 7 = .ok (.iload_n 2, 1) := dk_28 (dk_at dksX5_read_0 7 rfl rfl)
theorem dX5_read_8 : decode cX5_read 8 = .ok (.invokestatic 71, 3) := dk_184 0 71 (dk_at dksX5_read_0 8 rfl rfl)
theorem dX5_read_11 : decode cX5_read 11 = .ok (.ifCond .ne 5, 3) := dk_154 0 5 (dk_at dksX5_read_0 11 rfl rfl)
theorem dX5_read_14 : decode cX5_read 14 = .ok (.iconst (-1), 1) := dk_2 (dk_at dksX5_read_0 14 rfl rfl)
theorem dX5_read_15 : decode cX5_read 15 = .ok (.ireturn, 1) := dk_172 (dk_at dksX5_read_0 15 rfl rfl)
theorem dX5_read_16 : decode cX5_read 16 = .ok (.aload_n 0, 1) := dk_42 (dk_at dksX5_read_0 16 rfl rfl)
theorem dX5_read_17 : decode cX5_read 17 = .ok (.iload_n 2, 1) := dk_28 (dk_at dksX5_read_0 17 rfl rfl)
theorem dX5_read_18 : decode cX5_read 18 = .ok (.iload_n 3, 1) := dk_29 (dk_at dksX5_read_0 18 rfl rfl)
theorem dX5_read_19 : decode cX5_read 19 = .ok (.iconst 4, 1) := dk_7 (dk_at dksX5_read_0 19 rfl rfl)
theorem dX5_read_20 : decode cX5_read 20 = .ok (.invokevirtual 79, 3) := dk_182 0 79 (dk_at dksX5_read_0 20 rfl rfl)
theorem dX5_read_23 : decode cX5_read 23 = .ok (.istore 4, 2) := dk_54 4 (dk_at dksX5_read_1 0 rfl rfl)
theorem dX5_read_25 : decode cX5_read 25 = .ok (.iload 4, 2) := dk_21 4 (dk_at dksX5_read_1 2 rfl rfl)
theorem dX5_read_27 : decode cX5_read 27 = .ok (.ifCond .eq 6, 3) := dk_153 0 6 (dk_at dksX5_read_1 4 rfl rfl)
theorem dX5_read_30 : decode cX5_read 30 = .ok (.iload 4, 2) := dk_21 4 (dk_at dksX5_read_1 7 rfl rfl)
theorem dX5_read_32 : decode cX5_read 32 = .ok (.ireturn, 1) := dk_172 (dk_at dksX5_read_1 9 rfl rfl)
theorem dX5_read_33 : decode cX5_read 33 = .ok (.bipush 16, 2) := dk_16 16 (dk_at dksX5_read_1 10 rfl rfl)
theorem dX5_read_35 : decode cX5_read 35 = .ok (.iload_n 2, 1) := dk_28 (dk_at dksX5_read_1 12 rfl rfl)
theorem dX5_read_36 : decode cX5_read 36 = .ok (.imul, 1) := dk_104 (dk_at dksX5_read_1 13 rfl rfl)
theorem dX5_read_37 : decode cX5_read 37 = .ok (.iload_n 3, 1) := dk_29 (dk_at dksX5_read_1 14 rfl rfl)
theorem dX5_read_38 : decode cX5_read 38 = .ok (.iadd, 1) := dk_96 (dk_at dksX5_read_1 15 rfl rfl)
theorem dX5_read_39 : decode cX5_read 39 = .ok (.istore 5, 2) := dk_54 5 (dk_at dksX5_read_1 16 rfl rfl)
theorem dX5_read_41 : decode cX5_read 41 = .ok (.aload_n 0, 1) := dk_42 (dk_at dksX5_read_1 18 rfl rfl)
theorem dX5_read_42 : decode cX5_read 42 = .ok (.getfield 16, 3) := dk_180 0 16 (dk_at dksX5_read_1 19 rfl rfl)
theorem dX5_read_45 : decode cX5_read 45 = .ok (.iload 5, 2) := dk_21 5 (dk_at dksX5_read_1 22 rfl rfl)
theorem dX5_read_47 : decode cX5_read 47 = .ok (.laload, 1) := dk_47 (dk_at dksX5_read_2 0 rfl rfl)
theorem dX5_read_48 : decode cX5_read 48 = .ok (.aload_n 0, 1) := dk_42 (dk_at dksX5_read_2 1 rfl rfl)
theorem dX5_read_49 : decode cX5_read 49 = .ok (.getfield 16, 3) := dk_180 0 16 (dk_at dksX5_read_2 2 rfl rfl)
theorem dX5_read_52 : decode cX5_read 52 = .ok (.iload 5, 2) := dk_21 5 (dk_at dksX5_read_2 5 rfl rfl)
theorem dX5_read_54 : decode cX5_read 54 = .ok (.iconst 1, 1) := dk_4 (dk_at dksX5_read_2 7 rfl rfl)
theorem dX5_read_55 : decode cX5_read 55 = .ok (.iadd, 1) := dk_96 (dk_at dksX5_read_2 8 rfl rfl)
theorem dX5_read_56 : decode cX5_read 56 = .ok (.laload, 1) := dk_47 (dk_at dksX5_read_2 9 rfl rfl)
theorem dX5_read_57 : decode cX5_read 57 = .ok (.aload_n 0, 1) := dk_42 (dk_at dksX5_read_2 10 rfl rfl)
theorem dX5_read_58 : decode cX5_read 58 = .ok (.getfield 16, 3) := dk_180 0 16 (dk_at dksX5_read_2 11 rfl rfl)
theorem dX5_read_61 : decode cX5_read 61 = .ok (.iload 5, 2) := dk_21 5 (dk_at dksX5_read_2 14 rfl rfl)
theorem dX5_read_63 : decode cX5_read 63 = .ok (.iconst 2, 1) := dk_5 (dk_at dksX5_read_2 16 rfl rfl)
theorem dX5_read_64 : decode cX5_read 64 = .ok (.iadd, 1) := dk_96 (dk_at dksX5_read_2 17 rfl rfl)
theorem dX5_read_65 : decode cX5_read 65 = .ok (.laload, 1) := dk_47 (dk_at dksX5_read_2 18 rfl rfl)
theorem dX5_read_66 : decode cX5_read 66 = .ok (.aload_n 0, 1) := dk_42 (dk_at dksX5_read_2 19 rfl rfl)
theorem dX5_read_67 : decode cX5_read 67 = .ok (.getfield 16, 3) := dk_180 0 16 (dk_at dksX5_read_2 20 rfl rfl)
theorem dX5_read_70 : decode cX5_read 70 = .ok (.iload 5, 2) := dk_21 5 (dk_at dksX5_read_3 0 rfl rfl)
theorem dX5_read_72 : decode cX5_read 72 = .ok (.iconst 3, 1) := dk_6 (dk_at dksX5_read_3 2 rfl rfl)
theorem dX5_read_73 : decode cX5_read 73 = .ok (.iadd, 1) := dk_96 (dk_at dksX5_read_3 3 rfl rfl)
theorem dX5_read_74 : decode cX5_read 74 = .ok (.laload, 1) := dk_47 (dk_at dksX5_read_3 4 rfl rfl)
theorem dX5_read_75 : decode cX5_read 75 = .ok (.invokestatic 59, 3) := dk_184 0 59 (dk_at dksX5_read_3 5 rfl rfl)
theorem dX5_read_78 : decode cX5_read 78 = .ok (.ifCond .ne 6, 3) := dk_154 0 6 (dk_at dksX5_read_3 8 rfl rfl)
theorem dX5_read_81 : decode cX5_read 81 = .ok (.bipush (-15), 2) := dk_16 241 (dk_at dksX5_read_3 11 rfl rfl)
theorem dX5_read_83 : decode cX5_read 83 = .ok (.ireturn, 1) := dk_172 (dk_at dksX5_read_3 13 rfl rfl)
theorem dX5_read_84 : decode cX5_read 84 = .ok (.iconst 0, 1) := dk_3 (dk_at dksX5_read_3 14 rfl rfl)
theorem dX5_read_85 : decode cX5_read 85 = .ok (.istore 6, 2) := dk_54 6 (dk_at dksX5_read_3 15 rfl rfl)
theorem dX5_read_87 : decode cX5_read 87 = .ok (.iload 6, 2) := dk_21 6 (dk_at dksX5_read_3 17 rfl rfl)
theorem dX5_read_89 : decode cX5_read 89 = .ok (.iconst 4, 1) := dk_7 (dk_at dksX5_read_3 19 rfl rfl)
theorem dX5_read_90 : decode cX5_read 90 = .ok (.if_icmp .ge 28, 3) := dk_162 0 28 (dk_at dksX5_read_3 20 rfl rfl)
theorem dX5_read_93 : decode cX5_read 93 = .ok (.aload_n 0, 1) := dk_42 (dk_at dksX5_read_3 23 rfl rfl)
theorem dX5_read_94 : decode cX5_read 94 = .ok (.getfield 16, 3) := dk_180 0 16 (dk_at dksX5_read_4 0 rfl rfl)
theorem dX5_read_97 : decode cX5_read 97 = .ok (.iload 5, 2) := dk_21 5 (dk_at dksX5_read_4 3 rfl rfl)
theorem dX5_read_99 : decode cX5_read 99 = .ok (.iload 6, 2) := dk_21 6 (dk_at dksX5_read_4 5 rfl rfl)
theorem dX5_read_101 : decode cX5_read 101 = .ok (.iadd, 1) := dk_96 (dk_at dksX5_read_4 7 rfl rfl)
theorem dX5_read_102 : decode cX5_read 102 = .ok (.laload, 1) := dk_47 (dk_at dksX5_read_4 8 rfl rfl)
theorem dX5_read_103 : decode cX5_read 103 = .ok (.invokestatic 94, 3) := dk_184 0 94 (dk_at dksX5_read_4 9 rfl rfl)
theorem dX5_read_106 : decode cX5_read 106 = .ok (.ifCond .ne 6, 3) := dk_154 0 6 (dk_at dksX5_read_4 12 rfl rfl)
theorem dX5_read_109 : decode cX5_read 109 = .ok (.bipush (-16), 2) := dk_16 240 (dk_at dksX5_read_4 15 rfl rfl)
theorem dX5_read_111 : decode cX5_read 111 = .ok (.ireturn, 1) := dk_172 (dk_at dksX5_read_4 17 rfl rfl)
theorem dX5_read_112 : decode cX5_read 112 = .ok (.iinc 6 1, 3) := dk_132 6 1 (dk_at dksX5_read_4 18 rfl rfl)
theorem dX5_read_115 : decode cX5_read 115 = .ok (.goto (-28), 3) := dk_167 255 228 (dk_at dksX5_read_4 21 rfl rfl)
theorem dX5_read_118 : decode cX5_read 118 = .ok (.iconst 0, 1) := dk_3 (dk_at dksX5_read_5 0 rfl rfl)
theorem dX5_read_119 : decode cX5_read 119 = .ok (.istore 6, 2) := dk_54 6 (dk_at dksX5_read_5 1 rfl rfl)
theorem dX5_read_121 : decode cX5_read 121 = .ok (.iload 6, 2) := dk_21 6 (dk_at dksX5_read_5 3 rfl rfl)
theorem dX5_read_123 : decode cX5_read 123 = .ok (.iconst 4, 1) := dk_7 (dk_at dksX5_read_5 5 rfl rfl)
theorem dX5_read_124 : decode cX5_read 124 = .ok (.if_icmp .ge 31, 3) := dk_162 0 31 (dk_at dksX5_read_5 6 rfl rfl)
theorem dX5_read_127 : decode cX5_read 127 = .ok (.aload_n 0, 1) := dk_42 (dk_at dksX5_read_5 9 rfl rfl)
theorem dX5_read_128 : decode cX5_read 128 = .ok (.getfield 20, 3) := dk_180 0 20 (dk_at dksX5_read_5 10 rfl rfl)
theorem dX5_read_131 : decode cX5_read 131 = .ok (.iconst 4, 1) := dk_7 (dk_at dksX5_read_5 13 rfl rfl)
theorem dX5_read_132 : decode cX5_read 132 = .ok (.iload_n 1, 1) := dk_27 (dk_at dksX5_read_5 14 rfl rfl)
theorem dX5_read_133 : decode cX5_read 133 = .ok (.imul, 1) := dk_104 (dk_at dksX5_read_5 15 rfl rfl)
theorem dX5_read_134 : decode cX5_read 134 = .ok (.iload 6, 2) := dk_21 6 (dk_at dksX5_read_5 16 rfl rfl)
theorem dX5_read_136 : decode cX5_read 136 = .ok (.iadd, 1) := dk_96 (dk_at dksX5_read_5 18 rfl rfl)
theorem dX5_read_137 : decode cX5_read 137 = .ok (.aload_n 0, 1) := dk_42 (dk_at dksX5_read_5 19 rfl rfl)
theorem dX5_read_138 : decode cX5_read 138 = .ok (.getfield 16, 3) := dk_180 0 16 (dk_at dksX5_read_5 20 rfl rfl)
theorem dX5_read_141 : decode cX5_read 141 = .ok (.iload 5, 2) := dk_21 5 (dk_at dksX5_read_6 0 rfl rfl)
theorem dX5_read_143 : decode cX5_read 143 = .ok (.iload 6, 2) := dk_21 6 (dk_at dksX5_read_6 2 rfl rfl)
theorem dX5_read_145 : decode cX5_read 145 = .ok (.iadd, 1) := dk_96 (dk_at dksX5_read_6 4 rfl rfl)
theorem dX5_read_146 : decode cX5_read 146 = .ok (.laload, 1) := dk_47 (dk_at dksX5_read_6 5 rfl rfl)
theorem dX5_read_147 : decode cX5_read 147 = .ok (.l2i, 1) := dk_136 (dk_at dksX5_read_6 6 rfl rfl)
theorem dX5_read_148 : decode cX5_read 148 = .ok (.iastore, 1) := dk_79 (dk_at dksX5_read_6 7 rfl rfl)
theorem dX5_read_149 : decode cX5_read 149 = .ok (.iinc 6 1, 3) := dk_132 6 1 (dk_at dksX5_read_6 8 rfl rfl)
theorem dX5_read_152 : decode cX5_read 152 = .ok (.goto (-31), 3) := dk_167 255 225 (dk_at dksX5_read_6 11 rfl rfl)
theorem dX5_read_155 : decode cX5_read 155 = .ok (.iconst 0, 1) := dk_3 (dk_at dksX5_read_6 14 rfl rfl)
theorem dX5_read_156 : decode cX5_read 156 = .ok (.ireturn, 1) := dk_172 (dk_at dksX5_read_6 15 rfl rfl)
abbrev cX5_isRegister : ByteArray := prog_9_method_5_code
def yX5_isRegister : MethodName := ⟨RX5, "isRegister", "(I)Z"⟩
def dkwX5_isRegister_0 : List UInt8 := [26, 133, 9, 20, 0, 69, 184, 0, 65, 172]
abbrev dktX5_isRegister_0 : List UInt8 := dkwX5_isRegister_0 ++ []
theorem dksX5_isRegister_0 : cX5_isRegister.data.toList.drop 0 = dktX5_isRegister_0 := by decide +kernel
theorem dX5_isRegister_0 : decode cX5_isRegister 0 = .ok (.iload_n 0, 1) := dk_26 (dk_at dksX5_isRegister_0 0 rfl rfl)
theorem dX5_isRegister_1 : decode cX5_isRegister 1 = .ok (.i2l, 1) := dk_133 (dk_at dksX5_isRegister_0 1 rfl rfl)
theorem dX5_isRegister_2 : decode cX5_isRegister 2 = .ok (.lconst 0, 1) := dk_9 (dk_at dksX5_isRegister_0 2 rfl rfl)
theorem dX5_isRegister_3 : decode cX5_isRegister 3 = .ok (.ldc2_w 69, 3) := dk_20 0 69 (dk_at dksX5_isRegister_0 3 rfl rfl)
theorem dX5_isRegister_6 : decode cX5_isRegister 6 = .ok (.invokestatic 65, 3) := dk_184 0 65 (dk_at dksX5_isRegister_0 6 rfl rfl)
theorem dX5_isRegister_9 : decode cX5_isRegister 9 = .ok (.ireturn, 1) := dk_172 (dk_at dksX5_isRegister_0 9 rfl rfl)
abbrev cX5_isPart : ByteArray := prog_9_method_11_code
def yX5_isPart : MethodName := ⟨RX5, "isPart", "(J)Z"⟩
def dkwX5_isPart_0 : List UInt8 := [30, 20, 0, 87, 20, 0, 89, 184, 0, 65, 172]
abbrev dktX5_isPart_0 : List UInt8 := dkwX5_isPart_0 ++ []
theorem dksX5_isPart_0 : cX5_isPart.data.toList.drop 0 = dktX5_isPart_0 := by decide +kernel
theorem dX5_isPart_0 : decode cX5_isPart 0 = .ok (.lload_n 0, 1) := dk_30 (dk_at dksX5_isPart_0 0 rfl rfl)
theorem dX5_isPart_1 : decode cX5_isPart 1 = .ok (.ldc2_w 87, 3) := dk_20 0 87 (dk_at dksX5_isPart_0 1 rfl rfl)
theorem dX5_isPart_4 : decode cX5_isPart 4 = .ok (.ldc2_w 89, 3) := dk_20 0 89 (dk_at dksX5_isPart_0 4 rfl rfl)
theorem dX5_isPart_7 : decode cX5_isPart 7 = .ok (.invokestatic 65, 3) := dk_184 0 65 (dk_at dksX5_isPart_0 7 rfl rfl)
theorem dX5_isPart_10 : decode cX5_isPart 10 = .ok (.ireturn, 1) := dk_172 (dk_at dksX5_isPart_0 10 rfl rfl)
abbrev cX5_write : ByteArray := prog_9_method_13_code
def yX5_write : MethodName := ⟨RX5, "write", "(III)I"⟩
def dkwX5_write_3 : List UInt8 := [132, 5, 1, 167, 255, 211, 21, 4, 172]
abbrev dktX5_write_3 : List UInt8 := dkwX5_write_3 ++ []
def dkwX5_write_2 : List UInt8 := [29, 96, 21, 5, 96, 42, 28, 42, 180, 0, 20, 7, 27, 104, 21, 5, 96, 46, 133, 182, 0, 83, 80]
abbrev dktX5_write_2 : List UInt8 := dkwX5_write_2 ++ dktX5_write_3
def dkwX5_write_1 : List UInt8 := [54, 4, 3, 54, 5, 21, 5, 7, 162, 0, 45, 21, 4, 154, 0, 40, 42, 180, 0, 16, 16, 16, 28, 104]
abbrev dktX5_write_1 : List UInt8 := dkwX5_write_1 ++ dktX5_write_2
def dkwX5_write_0 : List UInt8 := [27, 184, 0, 91, 153, 0, 10, 28, 184, 0, 71, 154, 0, 5, 2, 172, 42, 28, 29, 7, 182, 0, 79]
abbrev dktX5_write_0 : List UInt8 := dkwX5_write_0 ++ dktX5_write_1
theorem dksX5_write_0 : cX5_write.data.toList.drop 0 = dktX5_write_0 := by decide +kernel
theorem dksX5_write_1 : cX5_write.data.toList.drop 23 = dktX5_write_1 := dk_seg dksX5_write_0 23 rfl rfl
theorem dksX5_write_2 : cX5_write.data.toList.drop 47 = dktX5_write_2 := dk_seg dksX5_write_1 24 rfl rfl
theorem dksX5_write_3 : cX5_write.data.toList.drop 70 = dktX5_write_3 := dk_seg dksX5_write_2 23 rfl rfl
theorem dX5_write_0 : decode cX5_write 0 = .ok (.iload_n 1, 1) := dk_27 (dk_at dksX5_write_0 0 rfl rfl)
theorem dX5_write_1 : decode cX5_write 1 = .ok (.invokestatic 91, 3) := dk_184 0 91 (dk_at dksX5_write_0 1 rfl rfl)
theorem dX5_write_4 : decode cX5_write 4 = .ok (.ifCond .eq 10, 3) := dk_153 0 10 (dk_at dksX5_write_0 4 rfl rfl)
theorem dX5_write_7 : decode cX5_write 7 = .ok (.iload_n 2, 1) := dk_28 (dk_at dksX5_write_0 7 rfl rfl)
theorem dX5_write_8 : decode cX5_write 8 = .ok (.invokestatic 71, 3) := dk_184 0 71 (dk_at dksX5_write_0 8 rfl rfl)
theorem dX5_write_11 : decode cX5_write 11 = .ok (.ifCond .ne 5, 3) := dk_154 0 5 (dk_at dksX5_write_0 11 rfl rfl)
theorem dX5_write_14 : decode cX5_write 14 = .ok (.iconst (-1), 1) := dk_2 (dk_at dksX5_write_0 14 rfl rfl)
theorem dX5_write_15 : decode cX5_write 15 = .ok (.ireturn, 1) := dk_172 (dk_at dksX5_write_0 15 rfl rfl)
theorem dX5_write_16 : decode cX5_write 16 = .ok (.aload_n 0, 1) := dk_42 (dk_at dksX5_write_0 16 rfl rfl)
theorem dX5_write_17 : decode cX5_write 17 = .ok (.iload_n 2, 1) := dk_28 (dk_at dksX5_write_0 17 rfl rfl)
theorem dX5_write_18 : decode cX5_write 18 = .ok (.iload_n 3, 1) := dk_29 (dk_at dksX5_write_0 18 rfl rfl)
theorem dX5_write_19 : decode cX5_write 19 = .ok (.iconst 4, 1) := dk_7 (dk_at dksX5_write_0 19 rfl rfl)
theorem dX5_write_20 : decode cX5_write 20 = .ok (.invokevirtual 79, 3) := dk_182 0 79 (dk_at dksX5_write_0 20 rfl rfl)
theorem dX5_write_23 : decode cX5_write 23 = .ok (.istore 4, 2) := dk_54 4 (dk_at dksX5_write_1 0 rfl rfl)
theorem dX5_write_25 : decode cX5_write 25 = .ok (.iconst 0, 1) := dk_3 (dk_at dksX5_write_1 2 rfl rfl)
theorem dX5_write_26 : decode cX5_write 26 = .ok (.istore 5, 2) := dk_54 5 (dk_at dksX5_write_1 3 rfl rfl)
theorem dX5_write_28 : decode cX5_write 28 = .ok (.iload 5, 2) := dk_21 5 (dk_at dksX5_write_1 5 rfl rfl)
theorem dX5_write_30 : decode cX5_write 30 = .ok (.iconst 4, 1) := dk_7 (dk_at dksX5_write_1 7 rfl rfl)
theorem dX5_write_31 : decode cX5_write 31 = .ok (.if_icmp .ge 45, 3) := dk_162 0 45 (dk_at dksX5_write_1 8 rfl rfl)
theorem dX5_write_34 : decode cX5_write 34 = .ok (.iload 4, 2) := dk_21 4 (dk_at dksX5_write_1 11 rfl rfl)
theorem dX5_write_36 : decode cX5_write 36 = .ok (.ifCond .ne 40, 3) := dk_154 0 40 (dk_at dksX5_write_1 13 rfl rfl)
theorem dX5_write_39 : decode cX5_write 39 = .ok (.aload_n 0, 1) := dk_42 (dk_at dksX5_write_1 16 rfl rfl)
theorem dX5_write_40 : decode cX5_write 40 = .ok (.getfield 16, 3) := dk_180 0 16 (dk_at dksX5_write_1 17 rfl rfl)
theorem dX5_write_43 : decode cX5_write 43 = .ok (.bipush 16, 2) := dk_16 16 (dk_at dksX5_write_1 20 rfl rfl)
theorem dX5_write_45 : decode cX5_write 45 = .ok (.iload_n 2, 1) := dk_28 (dk_at dksX5_write_1 22 rfl rfl)
theorem dX5_write_46 : decode cX5_write 46 = .ok (.imul, 1) := dk_104 (dk_at dksX5_write_1 23 rfl rfl)
theorem dX5_write_47 : decode cX5_write 47 = .ok (.iload_n 3, 1) := dk_29 (dk_at dksX5_write_2 0 rfl rfl)
theorem dX5_write_48 : decode cX5_write 48 = .ok (.iadd, 1) := dk_96 (dk_at dksX5_write_2 1 rfl rfl)
theorem dX5_write_49 : decode cX5_write 49 = .ok (.iload 5, 2) := dk_21 5 (dk_at dksX5_write_2 2 rfl rfl)
theorem dX5_write_51 : decode cX5_write 51 = .ok (.iadd, 1) := dk_96 (dk_at dksX5_write_2 4 rfl rfl)
theorem dX5_write_52 : decode cX5_write 52 = .ok (.aload_n 0, 1) := dk_42 (dk_at dksX5_write_2 5 rfl rfl)
theorem dX5_write_53 : decode cX5_write 53 = .ok (.iload_n 2, 1) := dk_28 (dk_at dksX5_write_2 6 rfl rfl)
theorem dX5_write_54 : decode cX5_write 54 = .ok (.aload_n 0, 1) := dk_42 (dk_at dksX5_write_2 7 rfl rfl)
theorem dX5_write_55 : decode cX5_write 55 = .ok (.getfield 20, 3) := dk_180 0 20 (dk_at dksX5_write_2 8 rfl rfl)
theorem dX5_write_58 : decode cX5_write 58 = .ok (.iconst 4, 1) := dk_7 (dk_at dksX5_write_2 11 rfl rfl)
theorem dX5_write_59 : decode cX5_write 59 = .ok (.iload_n 1, 1) := dk_27 (dk_at dksX5_write_2 12 rfl rfl)
theorem dX5_write_60 : decode cX5_write 60 = .ok (.imul, 1) := dk_104 (dk_at dksX5_write_2 13 rfl rfl)
theorem dX5_write_61 : decode cX5_write 61 = .ok (.iload 5, 2) := dk_21 5 (dk_at dksX5_write_2 14 rfl rfl)
theorem dX5_write_63 : decode cX5_write 63 = .ok (.iadd, 1) := dk_96 (dk_at dksX5_write_2 16 rfl rfl)
theorem dX5_write_64 : decode cX5_write 64 = .ok (.iaload, 1) := dk_46 (dk_at dksX5_write_2 17 rfl rfl)
theorem dX5_write_65 : decode cX5_write 65 = .ok (.i2l, 1) := dk_133 (dk_at dksX5_write_2 18 rfl rfl)
theorem dX5_write_66 : decode cX5_write 66 = .ok (.invokevirtual 83, 3) := dk_182 0 83 (dk_at dksX5_write_2 19 rfl rfl)
theorem dX5_write_69 : decode cX5_write 69 = .ok (.lastore, 1) := dk_80 (dk_at dksX5_write_2 22 rfl rfl)
theorem dX5_write_70 : decode cX5_write 70 = .ok (.iinc 5 1, 3) := dk_132 5 1 (dk_at dksX5_write_3 0 rfl rfl)
theorem dX5_write_73 : decode cX5_write 73 = .ok (.goto (-45), 3) := dk_167 255 211 (dk_at dksX5_write_3 3 rfl rfl)
theorem dX5_write_76 : decode cX5_write 76 = .ok (.iload 4, 2) := dk_21 4 (dk_at dksX5_write_3 6 rfl rfl)
theorem dX5_write_78 : decode cX5_write 78 = .ok (.ireturn, 1) := dk_172 (dk_at dksX5_write_3 8 rfl rfl)
abbrev cX5_set : ByteArray := prog_9_method_26_code
def yX5_set : MethodName := ⟨RX5, "set", "(IIIII)I"⟩
def dkwX5_set_3 : List UInt8 := [182, 0, 108, 172]
abbrev dktX5_set_3 : List UInt8 := dkwX5_set_3 ++ []
def dkwX5_set_2 : List UInt8 := [180, 0, 32, 5, 21, 4, 133, 80, 42, 180, 0, 32, 6, 21, 5, 133, 80, 42, 27, 42, 180, 0, 32]
abbrev dktX5_set_2 : List UInt8 := dkwX5_set_2 ++ dktX5_set_3
def dkwX5_set_1 : List UInt8 := [154, 0, 6, 16, 254, 172, 42, 180, 0, 32, 3, 28, 133, 80, 42, 180, 0, 32, 4, 29, 133, 80, 42]
abbrev dktX5_set_1 : List UInt8 := dkwX5_set_1 ++ dktX5_set_2
def dkwX5_set_0 : List UInt8 := [27, 184, 0, 91, 154, 0, 5, 2, 172, 28, 133, 29, 133, 21, 4, 133, 21, 5, 133, 184, 0, 59]
abbrev dktX5_set_0 : List UInt8 := dkwX5_set_0 ++ dktX5_set_1
theorem dksX5_set_0 : cX5_set.data.toList.drop 0 = dktX5_set_0 := by decide +kernel
theorem dksX5_set_1 : cX5_set.data.toList.drop 22 = dktX5_set_1 := dk_seg dksX5_set_0 22 rfl rfl
theorem dksX5_set_2 : cX5_set.data.toList.drop 45 = dktX5_set_2 := dk_seg dksX5_set_1 23 rfl rfl
theorem dksX5_set_3 : cX5_set.data.toList.drop 68 = dktX5_set_3 := dk_seg dksX5_set_2 23 rfl rfl
theorem dX5_set_0 : decode cX5_set 0 = .ok (.iload_n 1, 1) := dk_27 (dk_at dksX5_set_0 0 rfl rfl)
theorem dX5_set_1 : decode cX5_set 1 = .ok (.invokestatic 91, 3) := dk_184 0 91 (dk_at dksX5_set_0 1 rfl rfl)
theorem dX5_set_4 : decode cX5_set 4 = .ok (.ifCond .ne 5, 3) := dk_154 0 5 (dk_at dksX5_set_0 4 rfl rfl)
theorem dX5_set_7 : decode cX5_set 7 = .ok (.iconst (-1), 1) := dk_2 (dk_at dksX5_set_0 7 rfl rfl)
theorem dX5_set_8 : decode cX5_set 8 = .ok (.ireturn, 1) := dk_172 (dk_at dksX5_set_0 8 rfl rfl)
theorem dX5_set_9 : decode cX5_set 9 = .ok (.iload_n 2, 1) := dk_28 (dk_at dksX5_set_0 9 rfl rfl)
theorem dX5_set_10 : decode cX5_set 10 = .ok (.i2l, 1) := dk_133 (dk_at dksX5_set_0 10 rfl rfl)
theorem dX5_set_11 : decode cX5_set 11 = .ok (.iload_n 3, 1) := dk_29 (dk_at dksX5_set_0 11 rfl rfl)
theorem dX5_set_12 : decode cX5_set 12 = .ok (.i2l, 1) := dk_133 (dk_at dksX5_set_0 12 rfl rfl)
theorem dX5_set_13 : decode cX5_set 13 = .ok (.iload 4, 2) := dk_21 4 (dk_at dksX5_set_0 13 rfl rfl)
theorem dX5_set_15 : decode cX5_set 15 = .ok (.i2l, 1) := dk_133 (dk_at dksX5_set_0 15 rfl rfl)
theorem dX5_set_16 : decode cX5_set 16 = .ok (.iload 5, 2) := dk_21 5 (dk_at dksX5_set_0 16 rfl rfl)
theorem dX5_set_18 : decode cX5_set 18 = .ok (.i2l, 1) := dk_133 (dk_at dksX5_set_0 18 rfl rfl)
theorem dX5_set_19 : decode cX5_set 19 = .ok (.invokestatic 59, 3) := dk_184 0 59 (dk_at dksX5_set_0 19 rfl rfl)
theorem dX5_set_22 : decode cX5_set 22 = .ok (.ifCond .ne 6, 3) := dk_154 0 6 (dk_at dksX5_set_1 0 rfl rfl)
theorem dX5_set_25 : decode cX5_set 25 = .ok (.bipush (-2), 2) := dk_16 254 (dk_at dksX5_set_1 3 rfl rfl)
theorem dX5_set_27 : decode cX5_set 27 = .ok (.ireturn, 1) := dk_172 (dk_at dksX5_set_1 5 rfl rfl)
theorem dX5_set_28 : decode cX5_set 28 = .ok (.aload_n 0, 1) := dk_42 (dk_at dksX5_set_1 6 rfl rfl)
theorem dX5_set_29 : decode cX5_set 29 = .ok (.getfield 32, 3) := dk_180 0 32 (dk_at dksX5_set_1 7 rfl rfl)
theorem dX5_set_32 : decode cX5_set 32 = .ok (.iconst 0, 1) := dk_3 (dk_at dksX5_set_1 10 rfl rfl)
theorem dX5_set_33 : decode cX5_set 33 = .ok (.iload_n 2, 1) := dk_28 (dk_at dksX5_set_1 11 rfl rfl)
theorem dX5_set_34 : decode cX5_set 34 = .ok (.i2l, 1) := dk_133 (dk_at dksX5_set_1 12 rfl rfl)
theorem dX5_set_35 : decode cX5_set 35 = .ok (.lastore, 1) := dk_80 (dk_at dksX5_set_1 13 rfl rfl)
theorem dX5_set_36 : decode cX5_set 36 = .ok (.aload_n 0, 1) := dk_42 (dk_at dksX5_set_1 14 rfl rfl)
theorem dX5_set_37 : decode cX5_set 37 = .ok (.getfield 32, 3) := dk_180 0 32 (dk_at dksX5_set_1 15 rfl rfl)
theorem dX5_set_40 : decode cX5_set 40 = .ok (.iconst 1, 1) := dk_4 (dk_at dksX5_set_1 18 rfl rfl)
theorem dX5_set_41 : decode cX5_set 41 = .ok (.iload_n 3, 1) := dk_29 (dk_at dksX5_set_1 19 rfl rfl)
theorem dX5_set_42 : decode cX5_set 42 = .ok (.i2l, 1) := dk_133 (dk_at dksX5_set_1 20 rfl rfl)
theorem dX5_set_43 : decode cX5_set 43 = .ok (.lastore, 1) := dk_80 (dk_at dksX5_set_1 21 rfl rfl)
theorem dX5_set_44 : decode cX5_set 44 = .ok (.aload_n 0, 1) := dk_42 (dk_at dksX5_set_1 22 rfl rfl)
theorem dX5_set_45 : decode cX5_set 45 = .ok (.getfield 32, 3) := dk_180 0 32 (dk_at dksX5_set_2 0 rfl rfl)
theorem dX5_set_48 : decode cX5_set 48 = .ok (.iconst 2, 1) := dk_5 (dk_at dksX5_set_2 3 rfl rfl)
theorem dX5_set_49 : decode cX5_set 49 = .ok (.iload 4, 2) := dk_21 4 (dk_at dksX5_set_2 4 rfl rfl)
theorem dX5_set_51 : decode cX5_set 51 = .ok (.i2l, 1) := dk_133 (dk_at dksX5_set_2 6 rfl rfl)
theorem dX5_set_52 : decode cX5_set 52 = .ok (.lastore, 1) := dk_80 (dk_at dksX5_set_2 7 rfl rfl)
theorem dX5_set_53 : decode cX5_set 53 = .ok (.aload_n 0, 1) := dk_42 (dk_at dksX5_set_2 8 rfl rfl)
theorem dX5_set_54 : decode cX5_set 54 = .ok (.getfield 32, 3) := dk_180 0 32 (dk_at dksX5_set_2 9 rfl rfl)
theorem dX5_set_57 : decode cX5_set 57 = .ok (.iconst 3, 1) := dk_6 (dk_at dksX5_set_2 12 rfl rfl)
theorem dX5_set_58 : decode cX5_set 58 = .ok (.iload 5, 2) := dk_21 5 (dk_at dksX5_set_2 13 rfl rfl)
theorem dX5_set_60 : decode cX5_set 60 = .ok (.i2l, 1) := dk_133 (dk_at dksX5_set_2 15 rfl rfl)
theorem dX5_set_61 : decode cX5_set 61 = .ok (.lastore, 1) := dk_80 (dk_at dksX5_set_2 16 rfl rfl)
theorem dX5_set_62 : decode cX5_set 62 = .ok (.aload_n 0, 1) := dk_42 (dk_at dksX5_set_2 17 rfl rfl)
theorem dX5_set_63 : decode cX5_set 63 = .ok (.iload_n 1, 1) := dk_27 (dk_at dksX5_set_2 18 rfl rfl)
theorem dX5_set_64 : decode cX5_set 64 = .ok (.aload_n 0, 1) := dk_42 (dk_at dksX5_set_2 19 rfl rfl)
theorem dX5_set_65 : decode cX5_set 65 = .ok (.getfield 32, 3) := dk_180 0 32 (dk_at dksX5_set_2 20 rfl rfl)
theorem dX5_set_68 : decode cX5_set 68 = .ok (.invokevirtual 108, 3) := dk_182 0 108 (dk_at dksX5_set_3 0 rfl rfl)
theorem dX5_set_71 : decode cX5_set 71 = .ok (.ireturn, 1) := dk_172 (dk_at dksX5_set_3 3 rfl rfl)
abbrev cX5_holds : ByteArray := prog_9_method_19_code
def yX5_holds : MethodName := ⟨RX5, "holds", "(I[J)I"⟩
def dkwX5_holds_0 : List UInt8 := [44, 184, 0, 98, 154, 0, 6, 16, 253, 172, 42, 27, 44, 182, 0, 102, 3, 172]
abbrev dktX5_holds_0 : List UInt8 := dkwX5_holds_0 ++ []
theorem dksX5_holds_0 : cX5_holds.data.toList.drop 0 = dktX5_holds_0 := by decide +kernel
theorem dX5_holds_0 : decode cX5_holds 0 = .ok (.aload_n 2, 1) := dk_44 (dk_at dksX5_holds_0 0 rfl rfl)
theorem dX5_holds_1 : decode cX5_holds 1 = .ok (.invokestatic 98, 3) := dk_184 0 98 (dk_at dksX5_holds_0 1 rfl rfl)
theorem dX5_holds_4 : decode cX5_holds 4 = .ok (.ifCond .ne 6, 3) := dk_154 0 6 (dk_at dksX5_holds_0 4 rfl rfl)
theorem dX5_holds_7 : decode cX5_holds 7 = .ok (.bipush (-3), 2) := dk_16 253 (dk_at dksX5_holds_0 7 rfl rfl)
theorem dX5_holds_9 : decode cX5_holds 9 = .ok (.ireturn, 1) := dk_172 (dk_at dksX5_holds_0 9 rfl rfl)
theorem dX5_holds_10 : decode cX5_holds 10 = .ok (.aload_n 0, 1) := dk_42 (dk_at dksX5_holds_0 10 rfl rfl)
theorem dX5_holds_11 : decode cX5_holds 11 = .ok (.iload_n 1, 1) := dk_27 (dk_at dksX5_holds_0 11 rfl rfl)
theorem dX5_holds_12 : decode cX5_holds 12 = .ok (.aload_n 2, 1) := dk_44 (dk_at dksX5_holds_0 12 rfl rfl)
theorem dX5_holds_13 : decode cX5_holds 13 = .ok (.invokevirtual 102, 3) := dk_182 0 102 (dk_at dksX5_holds_0 13 rfl rfl)
theorem dX5_holds_16 : decode cX5_holds 16 = .ok (.iconst 0, 1) := dk_3 (dk_at dksX5_holds_0 16 rfl rfl)
theorem dX5_holds_17 : decode cX5_holds 17 = .ok (.ireturn, 1) := dk_172 (dk_at dksX5_holds_0 17 rfl rfl)
abbrev cX5_isLow : ByteArray := prog_9_method_17_code
def yX5_isLow : MethodName := ⟨RX5, "isLow", "([J)Z"⟩
def dkwX5_isLow_1 : List UInt8 := [153, 0, 16, 42, 6, 47, 184, 0, 94, 153, 0, 7, 4, 167, 0, 4, 3, 172]
abbrev dktX5_isLow_1 : List UInt8 := dkwX5_isLow_1 ++ []
def dkwX5_isLow_0 : List UInt8 := [42, 3, 47, 184, 0, 94, 153, 0, 34, 42, 4, 47, 184, 0, 94, 153, 0, 25, 42, 5, 47, 184, 0, 94]
abbrev dktX5_isLow_0 : List UInt8 := dkwX5_isLow_0 ++ dktX5_isLow_1
theorem dksX5_isLow_0 : cX5_isLow.data.toList.drop 0 = dktX5_isLow_0 := by decide +kernel
theorem dksX5_isLow_1 : cX5_isLow.data.toList.drop 24 = dktX5_isLow_1 := dk_seg dksX5_isLow_0 24 rfl rfl
theorem dX5_isLow_0 : decode cX5_isLow 0 = .ok (.aload_n 0, 1) := dk_42 (dk_at dksX5_isLow_0 0 rfl rfl)
theorem dX5_isLow_1 : decode cX5_isLow 1 = .ok (.iconst 0, 1) := dk_3 (dk_at dksX5_isLow_0 1 rfl rfl)
theorem dX5_isLow_2 : decode cX5_isLow 2 = .ok (.laload, 1) := dk_47 (dk_at dksX5_isLow_0 2 rfl rfl)
theorem dX5_isLow_3 : decode cX5_isLow 3 = .ok (.invokestatic 94, 3) := dk_184 0 94 (dk_at dksX5_isLow_0 3 rfl rfl)
theorem dX5_isLow_6 : decode cX5_isLow 6 = .ok (.ifCond .eq 34, 3) := dk_153 0 34 (dk_at dksX5_isLow_0 6 rfl rfl)
theorem dX5_isLow_9 : decode cX5_isLow 9 = .ok (.aload_n 0, 1) := dk_42 (dk_at dksX5_isLow_0 9 rfl rfl)
theorem dX5_isLow_10 : decode cX5_isLow 10 = .ok (.iconst 1, 1) := dk_4 (dk_at dksX5_isLow_0 10 rfl rfl)
theorem dX5_isLow_11 : decode cX5_isLow 11 = .ok (.laload, 1) := dk_47 (dk_at dksX5_isLow_0 11 rfl rfl)
theorem dX5_isLow_12 : decode cX5_isLow 12 = .ok (.invokestatic 94, 3) := dk_184 0 94 (dk_at dksX5_isLow_0 12 rfl rfl)
theorem dX5_isLow_15 : decode cX5_isLow 15 = .ok (.ifCond .eq 25, 3) := dk_153 0 25 (dk_at dksX5_isLow_0 15 rfl rfl)
theorem dX5_isLow_18 : decode cX5_isLow 18 = .ok (.aload_n 0, 1) := dk_42 (dk_at dksX5_isLow_0 18 rfl rfl)
theorem dX5_isLow_19 : decode cX5_isLow 19 = .ok (.iconst 2, 1) := dk_5 (dk_at dksX5_isLow_0 19 rfl rfl)
theorem dX5_isLow_20 : decode cX5_isLow 20 = .ok (.laload, 1) := dk_47 (dk_at dksX5_isLow_0 20 rfl rfl)
theorem dX5_isLow_21 : decode cX5_isLow 21 = .ok (.invokestatic 94, 3) := dk_184 0 94 (dk_at dksX5_isLow_0 21 rfl rfl)
theorem dX5_isLow_24 : decode cX5_isLow 24 = .ok (.ifCond .eq 16, 3) := dk_153 0 16 (dk_at dksX5_isLow_1 0 rfl rfl)
theorem dX5_isLow_27 : decode cX5_isLow 27 = .ok (.aload_n 0, 1) := dk_42 (dk_at dksX5_isLow_1 3 rfl rfl)
theorem dX5_isLow_28 : decode cX5_isLow 28 = .ok (.iconst 3, 1) := dk_6 (dk_at dksX5_isLow_1 4 rfl rfl)
theorem dX5_isLow_29 : decode cX5_isLow 29 = .ok (.laload, 1) := dk_47 (dk_at dksX5_isLow_1 5 rfl rfl)
theorem dX5_isLow_30 : decode cX5_isLow 30 = .ok (.invokestatic 94, 3) := dk_184 0 94 (dk_at dksX5_isLow_1 6 rfl rfl)
theorem dX5_isLow_33 : decode cX5_isLow 33 = .ok (.ifCond .eq 7, 3) := dk_153 0 7 (dk_at dksX5_isLow_1 9 rfl rfl)
theorem dX5_isLow_36 : decode cX5_isLow 36 = .ok (.iconst 1, 1) := dk_4 (dk_at dksX5_isLow_1 12 rfl rfl)
theorem dX5_isLow_37 : decode cX5_isLow 37 = .ok (.goto 4, 3) := dk_167 0 4 (dk_at dksX5_isLow_1 13 rfl rfl)
theorem dX5_isLow_40 : decode cX5_isLow 40 = .ok (.iconst 0, 1) := dk_3 (dk_at dksX5_isLow_1 16 rfl rfl)
theorem dX5_isLow_41 : decode cX5_isLow 41 = .ok (.ireturn, 1) := dk_172 (dk_at dksX5_isLow_1 17 rfl rfl)
abbrev cX5_store : ByteArray := prog_9_method_18_code
def yX5_store : MethodName := ⟨RX5, "store", "(I[J)V"⟩
def dkwX5_store_1 : List UInt8 := [167, 255, 234, 177]
abbrev dktX5_store_1 : List UInt8 := dkwX5_store_1 ++ []
def dkwX5_store_0 : List UInt8 := [3, 62, 29, 7, 162, 0, 23, 42, 180, 0, 20, 7, 27, 104, 29, 96, 44, 29, 47, 136, 79, 132, 3, 1]
abbrev dktX5_store_0 : List UInt8 := dkwX5_store_0 ++ dktX5_store_1
theorem dksX5_store_0 : cX5_store.data.toList.drop 0 = dktX5_store_0 := by decide +kernel
theorem dksX5_store_1 : cX5_store.data.toList.drop 24 = dktX5_store_1 := dk_seg dksX5_store_0 24 rfl rfl
theorem dX5_store_0 : decode cX5_store 0 = .ok (.iconst 0, 1) := dk_3 (dk_at dksX5_store_0 0 rfl rfl)
theorem dX5_store_1 : decode cX5_store 1 = .ok (.istore_n 3, 1) := dk_62 (dk_at dksX5_store_0 1 rfl rfl)
theorem dX5_store_2 : decode cX5_store 2 = .ok (.iload_n 3, 1) := dk_29 (dk_at dksX5_store_0 2 rfl rfl)
theorem dX5_store_3 : decode cX5_store 3 = .ok (.iconst 4, 1) := dk_7 (dk_at dksX5_store_0 3 rfl rfl)
theorem dX5_store_4 : decode cX5_store 4 = .ok (.if_icmp .ge 23, 3) := dk_162 0 23 (dk_at dksX5_store_0 4 rfl rfl)
theorem dX5_store_7 : decode cX5_store 7 = .ok (.aload_n 0, 1) := dk_42 (dk_at dksX5_store_0 7 rfl rfl)
theorem dX5_store_8 : decode cX5_store 8 = .ok (.getfield 20, 3) := dk_180 0 20 (dk_at dksX5_store_0 8 rfl rfl)
theorem dX5_store_11 : decode cX5_store 11 = .ok (.iconst 4, 1) := dk_7 (dk_at dksX5_store_0 11 rfl rfl)
theorem dX5_store_12 : decode cX5_store 12 = .ok (.iload_n 1, 1) := dk_27 (dk_at dksX5_store_0 12 rfl rfl)
theorem dX5_store_13 : decode cX5_store 13 = .ok (.imul, 1) := dk_104 (dk_at dksX5_store_0 13 rfl rfl)
theorem dX5_store_14 : decode cX5_store 14 = .ok (.iload_n 3, 1) := dk_29 (dk_at dksX5_store_0 14 rfl rfl)
theorem dX5_store_15 : decode cX5_store 15 = .ok (.iadd, 1) := dk_96 (dk_at dksX5_store_0 15 rfl rfl)
theorem dX5_store_16 : decode cX5_store 16 = .ok (.aload_n 2, 1) := dk_44 (dk_at dksX5_store_0 16 rfl rfl)
theorem dX5_store_17 : decode cX5_store 17 = .ok (.iload_n 3, 1) := dk_29 (dk_at dksX5_store_0 17 rfl rfl)
theorem dX5_store_18 : decode cX5_store 18 = .ok (.laload, 1) := dk_47 (dk_at dksX5_store_0 18 rfl rfl)
theorem dX5_store_19 : decode cX5_store 19 = .ok (.l2i, 1) := dk_136 (dk_at dksX5_store_0 19 rfl rfl)
theorem dX5_store_20 : decode cX5_store 20 = .ok (.iastore, 1) := dk_79 (dk_at dksX5_store_0 20 rfl rfl)
theorem dX5_store_21 : decode cX5_store 21 = .ok (.iinc 3 1, 3) := dk_132 3 1 (dk_at dksX5_store_0 21 rfl rfl)
theorem dX5_store_24 : decode cX5_store 24 = .ok (.goto (-22), 3) := dk_167 255 234 (dk_at dksX5_store_1 0 rfl rfl)
theorem dX5_store_27 : decode cX5_store 27 = .ok (.return_, 1) := dk_177 (dk_at dksX5_store_1 3 rfl rfl)
abbrev cX5_part : ByteArray := prog_9_method_30_code
def yX5_part : MethodName := ⟨RX5, "part", "(II)I"⟩
def dkwX5_part_4 : List UInt8 := [182, 0, 133, 172]
abbrev dktX5_part_4 : List UInt8 := dkwX5_part_4 ++ []
def dkwX5_part_3 : List UInt8 := [180, 0, 32, 182, 0, 130, 153, 0, 7, 4, 167, 0, 15, 3, 167, 0, 11, 42, 42, 180, 0, 32]
abbrev dktX5_part_3 : List UInt8 := dkwX5_part_3 ++ dktX5_part_4
def dkwX5_part_2 : List UInt8 := [7, 160, 0, 14, 42, 180, 0, 32, 184, 0, 126, 136, 167, 0, 35, 28, 8, 160, 0, 22, 42, 42]
abbrev dktX5_part_2 : List UInt8 := dkwX5_part_2 ++ dktX5_part_3
def dkwX5_part_1 : List UInt8 := [162, 0, 14, 42, 180, 0, 20, 7, 27, 104, 28, 96, 46, 172, 42, 42, 180, 0, 32, 27, 182, 0, 122, 28]
abbrev dktX5_part_1 : List UInt8 := dkwX5_part_1 ++ dktX5_part_2
def dkwX5_part_0 : List UInt8 := [27, 184, 0, 91, 153, 0, 15, 28, 133, 9, 20, 0, 119, 184, 0, 65, 154, 0, 6, 18, 121, 172, 28, 7]
abbrev dktX5_part_0 : List UInt8 := dkwX5_part_0 ++ dktX5_part_1
theorem dksX5_part_0 : cX5_part.data.toList.drop 0 = dktX5_part_0 := by decide +kernel
theorem dksX5_part_1 : cX5_part.data.toList.drop 24 = dktX5_part_1 := dk_seg dksX5_part_0 24 rfl rfl
theorem dksX5_part_2 : cX5_part.data.toList.drop 48 = dktX5_part_2 := dk_seg dksX5_part_1 24 rfl rfl
theorem dksX5_part_3 : cX5_part.data.toList.drop 70 = dktX5_part_3 := dk_seg dksX5_part_2 22 rfl rfl
theorem dksX5_part_4 : cX5_part.data.toList.drop 92 = dktX5_part_4 := dk_seg dksX5_part_3 22 rfl rfl
theorem dX5_part_0 : decode cX5_part 0 = .ok (.iload_n 1, 1) := dk_27 (dk_at dksX5_part_0 0 rfl rfl)
theorem dX5_part_1 : decode cX5_part 1 = .ok (.invokestatic 91, 3) := dk_184 0 91 (dk_at dksX5_part_0 1 rfl rfl)
theorem dX5_part_4 : decode cX5_part 4 = .ok (.ifCond .eq 15, 3) := dk_153 0 15 (dk_at dksX5_part_0 4 rfl rfl)
theorem dX5_part_7 : decode cX5_part 7 = .ok (.iload_n 2, 1) := dk_28 (dk_at dksX5_part_0 7 rfl rfl)
theorem dX5_part_8 : decode cX5_part 8 = .ok (.i2l, 1) := dk_133 (dk_at dksX5_part_0 8 rfl rfl)
theorem dX5_part_9 : decode cX5_part 9 = .ok (.lconst 0, 1) := dk_9 (dk_at dksX5_part_0 9 rfl rfl)
theorem dX5_part_10 : decode cX5_part 10 = .ok (.ldc2_w 119, 3) := dk_20 0 119 (dk_at dksX5_part_0 10 rfl rfl)
theorem dX5_part_13 : decode cX5_part 13 = .ok (.invokestatic 65, 3) := dk_184 0 65 (dk_at dksX5_part_0 13 rfl rfl)
theorem dX5_part_16 : decode cX5_part 16 = .ok (.ifCond .ne 6, 3) := dk_154 0 6 (dk_at dksX5_part_0 16 rfl rfl)
theorem dX5_part_19 : decode cX5_part 19 = .ok (.ldc 121, 2) := dk_18 121 (dk_at dksX5_part_0 19 rfl rfl)
theorem dX5_part_21 : decode cX5_part 21 = .ok (.ireturn, 1) := dk_172 (dk_at dksX5_part_0 21 rfl rfl)
theorem dX5_part_22 : decode cX5_part 22 = .ok (.iload_n 2, 1) := dk_28 (dk_at dksX5_part_0 22 rfl rfl)
theorem dX5_part_23 : decode cX5_part 23 = .ok (.iconst 4, 1) := dk_7 (dk_at dksX5_part_0 23 rfl rfl)
theorem dX5_part_24 : decode cX5_part 24 = .ok (.if_icmp .ge 14, 3) := dk_162 0 14 (dk_at dksX5_part_1 0 rfl rfl)
theorem dX5_part_27 : decode cX5_part 27 = .ok (.aload_n 0, 1) := dk_42 (dk_at dksX5_part_1 3 rfl rfl)
theorem dX5_part_28 : decode cX5_part 28 = .ok (.getfield 20, 3) := dk_180 0 20 (dk_at dksX5_part_1 4 rfl rfl)
theorem dX5_part_31 : decode cX5_part 31 = .ok (.iconst 4, 1) := dk_7 (dk_at dksX5_part_1 7 rfl rfl)
theorem dX5_part_32 : decode cX5_part 32 = .ok (.iload_n 1, 1) := dk_27 (dk_at dksX5_part_1 8 rfl rfl)
theorem dX5_part_33 : decode cX5_part 33 = .ok (.imul, 1) := dk_104 (dk_at dksX5_part_1 9 rfl rfl)
theorem dX5_part_34 : decode cX5_part 34 = .ok (.iload_n 2, 1) := dk_28 (dk_at dksX5_part_1 10 rfl rfl)
theorem dX5_part_35 : decode cX5_part 35 = .ok (.iadd, 1) := dk_96 (dk_at dksX5_part_1 11 rfl rfl)
theorem dX5_part_36 : decode cX5_part 36 = .ok (.iaload, 1) := dk_46 (dk_at dksX5_part_1 12 rfl rfl)
theorem dX5_part_37 : decode cX5_part 37 = .ok (.ireturn, 1) := dk_172 (dk_at dksX5_part_1 13 rfl rfl)
theorem dX5_part_38 : decode cX5_part 38 = .ok (.aload_n 0, 1) := dk_42 (dk_at dksX5_part_1 14 rfl rfl)
theorem dX5_part_39 : decode cX5_part 39 = .ok (.aload_n 0, 1) := dk_42 (dk_at dksX5_part_1 15 rfl rfl)
theorem dX5_part_40 : decode cX5_part 40 = .ok (.getfield 32, 3) := dk_180 0 32 (dk_at dksX5_part_1 16 rfl rfl)
theorem dX5_part_43 : decode cX5_part 43 = .ok (.iload_n 1, 1) := dk_27 (dk_at dksX5_part_1 19 rfl rfl)
theorem dX5_part_44 : decode cX5_part 44 = .ok (.invokevirtual 122, 3) := dk_182 0 122 (dk_at dksX5_part_1 20 rfl rfl)
theorem dX5_part_47 : decode cX5_part 47 = .ok (.iload_n 2, 1) := dk_28 (dk_at dksX5_part_1 23 rfl rfl)
theorem dX5_part_48 : decode cX5_part 48 = .ok (.iconst 4, 1) := dk_7 (dk_at dksX5_part_2 0 rfl rfl)
theorem dX5_part_49 : decode cX5_part 49 = .ok (.if_icmp .ne 14, 3) := dk_160 0 14 (dk_at dksX5_part_2 1 rfl rfl)
theorem dX5_part_52 : decode cX5_part 52 = .ok (.aload_n 0, 1) := dk_42 (dk_at dksX5_part_2 4 rfl rfl)
theorem dX5_part_53 : decode cX5_part 53 = .ok (.getfield 32, 3) := dk_180 0 32 (dk_at dksX5_part_2 5 rfl rfl)
theorem dX5_part_56 : decode cX5_part 56 = .ok (.invokestatic 126, 3) := dk_184 0 126 (dk_at dksX5_part_2 8 rfl rfl)
theorem dX5_part_59 : decode cX5_part 59 = .ok (.l2i, 1) := dk_136 (dk_at dksX5_part_2 11 rfl rfl)
theorem dX5_part_60 : decode cX5_part 60 = .ok (.goto 35, 3) := dk_167 0 35 (dk_at dksX5_part_2 12 rfl rfl)
theorem dX5_part_63 : decode cX5_part 63 = .ok (.iload_n 2, 1) := dk_28 (dk_at dksX5_part_2 15 rfl rfl)
theorem dX5_part_64 : decode cX5_part 64 = .ok (.iconst 5, 1) := dk_8 (dk_at dksX5_part_2 16 rfl rfl)
theorem dX5_part_65 : decode cX5_part 65 = .ok (.if_icmp .ne 22, 3) := dk_160 0 22 (dk_at dksX5_part_2 17 rfl rfl)
theorem dX5_part_68 : decode cX5_part 68 = .ok (.aload_n 0, 1) := dk_42 (dk_at dksX5_part_2 20 rfl rfl)
theorem dX5_part_69 : decode cX5_part 69 = .ok (.aload_n 0, 1) := dk_42 (dk_at dksX5_part_2 21 rfl rfl)
theorem dX5_part_70 : decode cX5_part 70 = .ok (.getfield 32, 3) := dk_180 0 32 (dk_at dksX5_part_3 0 rfl rfl)
theorem dX5_part_73 : decode cX5_part 73 = .ok (.invokevirtual 130, 3) := dk_182 0 130 (dk_at dksX5_part_3 3 rfl rfl)
theorem dX5_part_76 : decode cX5_part 76 = .ok (.ifCond .eq 7, 3) := dk_153 0 7 (dk_at dksX5_part_3 6 rfl rfl)
theorem dX5_part_79 : decode cX5_part 79 = .ok (.iconst 1, 1) := dk_4 (dk_at dksX5_part_3 9 rfl rfl)
theorem dX5_part_80 : decode cX5_part 80 = .ok (.goto 15, 3) := dk_167 0 15 (dk_at dksX5_part_3 10 rfl rfl)
theorem dX5_part_83 : decode cX5_part 83 = .ok (.iconst 0, 1) := dk_3 (dk_at dksX5_part_3 13 rfl rfl)
theorem dX5_part_84 : decode cX5_part 84 = .ok (.goto 11, 3) := dk_167 0 11 (dk_at dksX5_part_3 14 rfl rfl)
theorem dX5_part_87 : decode cX5_part 87 = .ok (.aload_n 0, 1) := dk_42 (dk_at dksX5_part_3 17 rfl rfl)
theorem dX5_part_88 : decode cX5_part 88 = .ok (.aload_n 0, 1) := dk_42 (dk_at dksX5_part_3 18 rfl rfl)
theorem dX5_part_89 : decode cX5_part 89 = .ok (.getfield 32, 3) := dk_180 0 32 (dk_at dksX5_part_3 19 rfl rfl)
theorem dX5_part_92 : decode cX5_part 92 = .ok (.invokevirtual 133, 3) := dk_182 0 133 (dk_at dksX5_part_4 0 rfl rfl)
theorem dX5_part_95 : decode cX5_part 95 = .ok (.ireturn, 1) := dk_172 (dk_at dksX5_part_4 3 rfl rfl)
abbrev cX5_load : ByteArray := prog_9_method_14_code
def yX5_load : MethodName := ⟨RX5, "load", "([JI)V"⟩
def dkwX5_load_1 : List UInt8 := [167, 255, 234, 177]
abbrev dktX5_load_1 : List UInt8 := dkwX5_load_1 ++ []
def dkwX5_load_0 : List UInt8 := [3, 62, 29, 7, 162, 0, 23, 43, 29, 42, 180, 0, 20, 7, 28, 104, 29, 96, 46, 133, 80, 132, 3, 1]
abbrev dktX5_load_0 : List UInt8 := dkwX5_load_0 ++ dktX5_load_1
theorem dksX5_load_0 : cX5_load.data.toList.drop 0 = dktX5_load_0 := by decide +kernel
theorem dksX5_load_1 : cX5_load.data.toList.drop 24 = dktX5_load_1 := dk_seg dksX5_load_0 24 rfl rfl
theorem dX5_load_0 : decode cX5_load 0 = .ok (.iconst 0, 1) := dk_3 (dk_at dksX5_load_0 0 rfl rfl)
theorem dX5_load_1 : decode cX5_load 1 = .ok (.istore_n 3, 1) := dk_62 (dk_at dksX5_load_0 1 rfl rfl)
theorem dX5_load_2 : decode cX5_load 2 = .ok (.iload_n 3, 1) := dk_29 (dk_at dksX5_load_0 2 rfl rfl)
theorem dX5_load_3 : decode cX5_load 3 = .ok (.iconst 4, 1) := dk_7 (dk_at dksX5_load_0 3 rfl rfl)
theorem dX5_load_4 : decode cX5_load 4 = .ok (.if_icmp .ge 23, 3) := dk_162 0 23 (dk_at dksX5_load_0 4 rfl rfl)
theorem dX5_load_7 : decode cX5_load 7 = .ok (.aload_n 1, 1) := dk_43 (dk_at dksX5_load_0 7 rfl rfl)
theorem dX5_load_8 : decode cX5_load 8 = .ok (.iload_n 3, 1) := dk_29 (dk_at dksX5_load_0 8 rfl rfl)
theorem dX5_load_9 : decode cX5_load 9 = .ok (.aload_n 0, 1) := dk_42 (dk_at dksX5_load_0 9 rfl rfl)
theorem dX5_load_10 : decode cX5_load 10 = .ok (.getfield 20, 3) := dk_180 0 20 (dk_at dksX5_load_0 10 rfl rfl)
theorem dX5_load_13 : decode cX5_load 13 = .ok (.iconst 4, 1) := dk_7 (dk_at dksX5_load_0 13 rfl rfl)
theorem dX5_load_14 : decode cX5_load 14 = .ok (.iload_n 2, 1) := dk_28 (dk_at dksX5_load_0 14 rfl rfl)
theorem dX5_load_15 : decode cX5_load 15 = .ok (.imul, 1) := dk_104 (dk_at dksX5_load_0 15 rfl rfl)
theorem dX5_load_16 : decode cX5_load 16 = .ok (.iload_n 3, 1) := dk_29 (dk_at dksX5_load_0 16 rfl rfl)
theorem dX5_load_17 : decode cX5_load 17 = .ok (.iadd, 1) := dk_96 (dk_at dksX5_load_0 17 rfl rfl)
theorem dX5_load_18 : decode cX5_load 18 = .ok (.iaload, 1) := dk_46 (dk_at dksX5_load_0 18 rfl rfl)
theorem dX5_load_19 : decode cX5_load 19 = .ok (.i2l, 1) := dk_133 (dk_at dksX5_load_0 19 rfl rfl)
theorem dX5_load_20 : decode cX5_load 20 = .ok (.lastore, 1) := dk_80 (dk_at dksX5_load_0 20 rfl rfl)
theorem dX5_load_21 : decode cX5_load 21 = .ok (.iinc 3 1, 3) := dk_132 3 1 (dk_at dksX5_load_0 21 rfl rfl)
theorem dX5_load_24 : decode cX5_load 24 = .ok (.goto (-22), 3) := dk_167 255 234 (dk_at dksX5_load_1 0 rfl rfl)
theorem dX5_load_27 : decode cX5_load 27 = .ok (.return_, 1) := dk_177 (dk_at dksX5_load_1 3 rfl rfl)
abbrev cX5_norm : ByteArray := prog_9_method_22_code
def yX5_norm : MethodName := ⟨RX5, "norm", "([J)J"⟩
def dkwX5_norm_1 : List UInt8 := [6, 47, 42, 6, 47, 105, 97, 20, 0, 106, 109, 173]
abbrev dktX5_norm_1 : List UInt8 := dkwX5_norm_1 ++ []
def dkwX5_norm_0 : List UInt8 := [42, 3, 47, 42, 3, 47, 105, 42, 4, 47, 42, 4, 47, 105, 97, 42, 5, 47, 42, 5, 47, 105, 97, 42]
abbrev dktX5_norm_0 : List UInt8 := dkwX5_norm_0 ++ dktX5_norm_1
theorem dksX5_norm_0 : cX5_norm.data.toList.drop 0 = dktX5_norm_0 := by decide +kernel
theorem dksX5_norm_1 : cX5_norm.data.toList.drop 24 = dktX5_norm_1 := dk_seg dksX5_norm_0 24 rfl rfl
theorem dX5_norm_0 : decode cX5_norm 0 = .ok (.aload_n 0, 1) := dk_42 (dk_at dksX5_norm_0 0 rfl rfl)
theorem dX5_norm_1 : decode cX5_norm 1 = .ok (.iconst 0, 1) := dk_3 (dk_at dksX5_norm_0 1 rfl rfl)
theorem dX5_norm_2 : decode cX5_norm 2 = .ok (.laload, 1) := dk_47 (dk_at dksX5_norm_0 2 rfl rfl)
theorem dX5_norm_3 : decode cX5_norm 3 = .ok (.aload_n 0, 1) := dk_42 (dk_at dksX5_norm_0 3 rfl rfl)
theorem dX5_norm_4 : decode cX5_norm 4 = .ok (.iconst 0, 1) := dk_3 (dk_at dksX5_norm_0 4 rfl rfl)
theorem dX5_norm_5 : decode cX5_norm 5 = .ok (.laload, 1) := dk_47 (dk_at dksX5_norm_0 5 rfl rfl)
theorem dX5_norm_6 : decode cX5_norm 6 = .ok (.lmul, 1) := dk_105 (dk_at dksX5_norm_0 6 rfl rfl)
theorem dX5_norm_7 : decode cX5_norm 7 = .ok (.aload_n 0, 1) := dk_42 (dk_at dksX5_norm_0 7 rfl rfl)
theorem dX5_norm_8 : decode cX5_norm 8 = .ok (.iconst 1, 1) := dk_4 (dk_at dksX5_norm_0 8 rfl rfl)
theorem dX5_norm_9 : decode cX5_norm 9 = .ok (.laload, 1) := dk_47 (dk_at dksX5_norm_0 9 rfl rfl)
theorem dX5_norm_10 : decode cX5_norm 10 = .ok (.aload_n 0, 1) := dk_42 (dk_at dksX5_norm_0 10 rfl rfl)
theorem dX5_norm_11 : decode cX5_norm 11 = .ok (.iconst 1, 1) := dk_4 (dk_at dksX5_norm_0 11 rfl rfl)
theorem dX5_norm_12 : decode cX5_norm 12 = .ok (.laload, 1) := dk_47 (dk_at dksX5_norm_0 12 rfl rfl)
theorem dX5_norm_13 : decode cX5_norm 13 = .ok (.lmul, 1) := dk_105 (dk_at dksX5_norm_0 13 rfl rfl)
theorem dX5_norm_14 : decode cX5_norm 14 = .ok (.ladd, 1) := dk_97 (dk_at dksX5_norm_0 14 rfl rfl)
theorem dX5_norm_15 : decode cX5_norm 15 = .ok (.aload_n 0, 1) := dk_42 (dk_at dksX5_norm_0 15 rfl rfl)
theorem dX5_norm_16 : decode cX5_norm 16 = .ok (.iconst 2, 1) := dk_5 (dk_at dksX5_norm_0 16 rfl rfl)
theorem dX5_norm_17 : decode cX5_norm 17 = .ok (.laload, 1) := dk_47 (dk_at dksX5_norm_0 17 rfl rfl)
theorem dX5_norm_18 : decode cX5_norm 18 = .ok (.aload_n 0, 1) := dk_42 (dk_at dksX5_norm_0 18 rfl rfl)
theorem dX5_norm_19 : decode cX5_norm 19 = .ok (.iconst 2, 1) := dk_5 (dk_at dksX5_norm_0 19 rfl rfl)
theorem dX5_norm_20 : decode cX5_norm 20 = .ok (.laload, 1) := dk_47 (dk_at dksX5_norm_0 20 rfl rfl)
theorem dX5_norm_21 : decode cX5_norm 21 = .ok (.lmul, 1) := dk_105 (dk_at dksX5_norm_0 21 rfl rfl)
theorem dX5_norm_22 : decode cX5_norm 22 = .ok (.ladd, 1) := dk_97 (dk_at dksX5_norm_0 22 rfl rfl)
theorem dX5_norm_23 : decode cX5_norm 23 = .ok (.aload_n 0, 1) := dk_42 (dk_at dksX5_norm_0 23 rfl rfl)
theorem dX5_norm_24 : decode cX5_norm 24 = .ok (.iconst 3, 1) := dk_6 (dk_at dksX5_norm_1 0 rfl rfl)
theorem dX5_norm_25 : decode cX5_norm 25 = .ok (.laload, 1) := dk_47 (dk_at dksX5_norm_1 1 rfl rfl)
theorem dX5_norm_26 : decode cX5_norm 26 = .ok (.aload_n 0, 1) := dk_42 (dk_at dksX5_norm_1 2 rfl rfl)
theorem dX5_norm_27 : decode cX5_norm 27 = .ok (.iconst 3, 1) := dk_6 (dk_at dksX5_norm_1 3 rfl rfl)
theorem dX5_norm_28 : decode cX5_norm 28 = .ok (.laload, 1) := dk_47 (dk_at dksX5_norm_1 4 rfl rfl)
theorem dX5_norm_29 : decode cX5_norm 29 = .ok (.lmul, 1) := dk_105 (dk_at dksX5_norm_1 5 rfl rfl)
theorem dX5_norm_30 : decode cX5_norm 30 = .ok (.ladd, 1) := dk_97 (dk_at dksX5_norm_1 6 rfl rfl)
theorem dX5_norm_31 : decode cX5_norm 31 = .ok (.ldc2_w 106, 3) := dk_20 0 106 (dk_at dksX5_norm_1 7 rfl rfl)
theorem dX5_norm_34 : decode cX5_norm 34 = .ok (.ldiv, 1) := dk_109 (dk_at dksX5_norm_1 10 rfl rfl)
theorem dX5_norm_35 : decode cX5_norm 35 = .ok (.lreturn, 1) := dk_173 (dk_at dksX5_norm_1 11 rfl rfl)
abbrev cX5_isPrimitive : ByteArray := prog_9_method_28_code
def yX5_isPrimitive : MethodName := ⟨RX5, "isPrimitive", "([J)Z"⟩
def dkwX5_isPrimitive_4 : List UInt8 := [109, 65, 167, 255, 240, 32, 10, 148, 154, 0, 12, 21, 4, 154, 0, 7, 4, 167, 0, 4, 3, 172]
abbrev dktX5_isPrimitive_4 : List UInt8 := dkwX5_isPrimitive_4 ++ []
def dkwX5_isPrimitive_3 : List UInt8 := [153, 0, 7, 4, 167, 0, 4, 3, 54, 4, 32, 20, 0, 77, 113, 9, 148, 154, 0, 12, 32, 20, 0, 77]
abbrev dktX5_isPrimitive_3 : List UInt8 := dkwX5_isPrimitive_3 ++ dktX5_isPrimitive_4
def dkwX5_isPrimitive_2 : List UInt8 := [43, 4, 47, 20, 0, 77, 109, 43, 5, 47, 20, 0, 77, 109, 43, 6, 47, 20, 0, 77, 109, 184, 0, 59]
abbrev dktX5_isPrimitive_2 : List UInt8 := dkwX5_isPrimitive_2 ++ dktX5_isPrimitive_3
def dkwX5_isPrimitive_1 : List UInt8 := [184, 0, 115, 184, 0, 115, 65, 32, 20, 0, 77, 113, 9, 148, 154, 0, 41, 43, 3, 47, 20, 0, 77, 109]
abbrev dktX5_isPrimitive_1 : List UInt8 := dkwX5_isPrimitive_1 ++ dktX5_isPrimitive_2
def dkwX5_isPrimitive_0 : List UInt8 := [43, 184, 0, 112, 153, 0, 5, 3, 172, 43, 3, 47, 43, 4, 47, 184, 0, 115, 43, 5, 47, 43, 6, 47]
abbrev dktX5_isPrimitive_0 : List UInt8 := dkwX5_isPrimitive_0 ++ dktX5_isPrimitive_1
theorem dksX5_isPrimitive_0 : cX5_isPrimitive.data.toList.drop 0 = dktX5_isPrimitive_0 := by decide +kernel
theorem dksX5_isPrimitive_1 : cX5_isPrimitive.data.toList.drop 24 = dktX5_isPrimitive_1 := dk_seg dksX5_isPrimitive_0 24 rfl rfl
theorem dksX5_isPrimitive_2 : cX5_isPrimitive.data.toList.drop 48 = dktX5_isPrimitive_2 := dk_seg dksX5_isPrimitive_1 24 rfl rfl
theorem dksX5_isPrimitive_3 : cX5_isPrimitive.data.toList.drop 72 = dktX5_isPrimitive_3 := dk_seg dksX5_isPrimitive_2 24 rfl rfl
theorem dksX5_isPrimitive_4 : cX5_isPrimitive.data.toList.drop 96 = dktX5_isPrimitive_4 := dk_seg dksX5_isPrimitive_3 24 rfl rfl
theorem dX5_isPrimitive_0 : decode cX5_isPrimitive 0 = .ok (.aload_n 1, 1) := dk_43 (dk_at dksX5_isPrimitive_0 0 rfl rfl)
theorem dX5_isPrimitive_1 : decode cX5_isPrimitive 1 = .ok (.invokestatic 112, 3) := dk_184 0 112 (dk_at dksX5_isPrimitive_0 1 rfl rfl)
theorem dX5_isPrimitive_4 : decode cX5_isPrimitive 4 = .ok (.ifCond .eq 5, 3) := dk_153 0 5 (dk_at dksX5_isPrimitive_0 4 rfl rfl)
theorem dX5_isPrimitive_7 : decode cX5_isPrimitive 7 = .ok (.iconst 0, 1) := dk_3 (dk_at dksX5_isPrimitive_0 7 rfl rfl)
theorem dX5_isPrimitive_8 : decode cX5_isPrimitive 8 = .ok (.ireturn, 1) := dk_172 (dk_at dksX5_isPrimitive_0 8 rfl rfl)
theorem dX5_isPrimitive_9 : decode cX5_isPrimitive 9 = .ok (.aload_n 1, 1) := dk_43 (dk_at dksX5_isPrimitive_0 9 rfl rfl)
theorem dX5_isPrimitive_10 : decode cX5_isPrimitive 10 = .ok (.iconst 0, 1) := dk_3 (dk_at dksX5_isPrimitive_0 10 rfl rfl)
theorem dX5_isPrimitive_11 : decode cX5_isPrimitive 11 = .ok (.laload, 1) := dk_47 (dk_at dksX5_isPrimitive_0 11 rfl rfl)
theorem dX5_isPrimitive_12 : decode cX5_isPrimitive 12 = .ok (.aload_n 1, 1) := dk_43 (dk_at dksX5_isPrimitive_0 12 rfl rfl)
theorem dX5_isPrimitive_13 : decode cX5_isPrimitive 13 = .ok (.iconst 1, 1) := dk_4 (dk_at dksX5_isPrimitive_0 13 rfl rfl)
theorem dX5_isPrimitive_14 : decode cX5_isPrimitive 14 = .ok (.laload, 1) := dk_47 (dk_at dksX5_isPrimitive_0 14 rfl rfl)
theorem dX5_isPrimitive_15 : decode cX5_isPrimitive 15 = .ok (.invokestatic 115, 3) := dk_184 0 115 (dk_at dksX5_isPrimitive_0 15 rfl rfl)
theorem dX5_isPrimitive_18 : decode cX5_isPrimitive 18 = .ok (.aload_n 1, 1) := dk_43 (dk_at dksX5_isPrimitive_0 18 rfl rfl)
theorem dX5_isPrimitive_19 : decode cX5_isPrimitive 19 = .ok (.iconst 2, 1) := dk_5 (dk_at dksX5_isPrimitive_0 19 rfl rfl)
theorem dX5_isPrimitive_20 : decode cX5_isPrimitive 20 = .ok (.laload, 1) := dk_47 (dk_at dksX5_isPrimitive_0 20 rfl rfl)
theorem dX5_isPrimitive_21 : decode cX5_isPrimitive 21 = .ok (.aload_n 1, 1) := dk_43 (dk_at dksX5_isPrimitive_0 21 rfl rfl)
theorem dX5_isPrimitive_22 : decode cX5_isPrimitive 22 = .ok (.iconst 3, 1) := dk_6 (dk_at dksX5_isPrimitive_0 22 rfl rfl)
theorem dX5_isPrimitive_23 : decode cX5_isPrimitive 23 = .ok (.laload, 1) := dk_47 (dk_at dksX5_isPrimitive_0 23 rfl rfl)
theorem dX5_isPrimitive_24 : decode cX5_isPrimitive 24 = .ok (.invokestatic 115, 3) := dk_184 0 115 (dk_at dksX5_isPrimitive_1 0 rfl rfl)
theorem dX5_isPrimitive_27 : decode cX5_isPrimitive 27 = .ok (.invokestatic 115, 3) := dk_184 0 115 (dk_at dksX5_isPrimitive_1 3 rfl rfl)
theorem dX5_isPrimitive_30 : decode cX5_isPrimitive 30 = .ok (.lstore_n 2, 1) := dk_65 (dk_at dksX5_isPrimitive_1 6 rfl rfl)
theorem dX5_isPrimitive_31 : decode cX5_isPrimitive 31 = .ok (.lload_n 2, 1) := dk_32 (dk_at dksX5_isPrimitive_1 7 rfl rfl)
theorem dX5_isPrimitive_32 : decode cX5_isPrimitive 32 = .ok (.ldc2_w 77, 3) := dk_20 0 77 (dk_at dksX5_isPrimitive_1 8 rfl rfl)
theorem dX5_isPrimitive_35 : decode cX5_isPrimitive 35 = .ok (.lrem, 1) := dk_113 (dk_at dksX5_isPrimitive_1 11 rfl rfl)
theorem dX5_isPrimitive_36 : decode cX5_isPrimitive 36 = .ok (.lconst 0, 1) := dk_9 (dk_at dksX5_isPrimitive_1 12 rfl rfl)
theorem dX5_isPrimitive_37 : decode cX5_isPrimitive 37 = .ok (.lcmp, 1) := dk_148 (dk_at dksX5_isPrimitive_1 13 rfl rfl)
theorem dX5_isPrimitive_38 : decode cX5_isPrimitive 38 = .ok (.ifCond .ne 41, 3) := dk_154 0 41 (dk_at dksX5_isPrimitive_1 14 rfl rfl)
theorem dX5_isPrimitive_41 : decode cX5_isPrimitive 41 = .ok (.aload_n 1, 1) := dk_43 (dk_at dksX5_isPrimitive_1 17 rfl rfl)
theorem dX5_isPrimitive_42 : decode cX5_isPrimitive 42 = .ok (.iconst 0, 1) := dk_3 (dk_at dksX5_isPrimitive_1 18 rfl rfl)
theorem dX5_isPrimitive_43 : decode cX5_isPrimitive 43 = .ok (.laload, 1) := dk_47 (dk_at dksX5_isPrimitive_1 19 rfl rfl)
theorem dX5_isPrimitive_44 : decode cX5_isPrimitive 44 = .ok (.ldc2_w 77, 3) := dk_20 0 77 (dk_at dksX5_isPrimitive_1 20 rfl rfl)
theorem dX5_isPrimitive_47 : decode cX5_isPrimitive 47 = .ok (.ldiv, 1) := dk_109 (dk_at dksX5_isPrimitive_1 23 rfl rfl)
theorem dX5_isPrimitive_48 : decode cX5_isPrimitive 48 = .ok (.aload_n 1, 1) := dk_43 (dk_at dksX5_isPrimitive_2 0 rfl rfl)
theorem dX5_isPrimitive_49 : decode cX5_isPrimitive 49 = .ok (.iconst 1, 1) := dk_4 (dk_at dksX5_isPrimitive_2 1 rfl rfl)
theorem dX5_isPrimitive_50 : decode cX5_isPrimitive 50 = .ok (.laload, 1) := dk_47 (dk_at dksX5_isPrimitive_2 2 rfl rfl)
theorem dX5_isPrimitive_51 : decode cX5_isPrimitive 51 = .ok (.ldc2_w 77, 3) := dk_20 0 77 (dk_at dksX5_isPrimitive_2 3 rfl rfl)
theorem dX5_isPrimitive_54 : decode cX5_isPrimitive 54 = .ok (.ldiv, 1) := dk_109 (dk_at dksX5_isPrimitive_2 6 rfl rfl)
theorem dX5_isPrimitive_55 : decode cX5_isPrimitive 55 = .ok (.aload_n 1, 1) := dk_43 (dk_at dksX5_isPrimitive_2 7 rfl rfl)
theorem dX5_isPrimitive_56 : decode cX5_isPrimitive 56 = .ok (.iconst 2, 1) := dk_5 (dk_at dksX5_isPrimitive_2 8 rfl rfl)
theorem dX5_isPrimitive_57 : decode cX5_isPrimitive 57 = .ok (.laload, 1) := dk_47 (dk_at dksX5_isPrimitive_2 9 rfl rfl)
theorem dX5_isPrimitive_58 : decode cX5_isPrimitive 58 = .ok (.ldc2_w 77, 3) := dk_20 0 77 (dk_at dksX5_isPrimitive_2 10 rfl rfl)
theorem dX5_isPrimitive_61 : decode cX5_isPrimitive 61 = .ok (.ldiv, 1) := dk_109 (dk_at dksX5_isPrimitive_2 13 rfl rfl)
theorem dX5_isPrimitive_62 : decode cX5_isPrimitive 62 = .ok (.aload_n 1, 1) := dk_43 (dk_at dksX5_isPrimitive_2 14 rfl rfl)
theorem dX5_isPrimitive_63 : decode cX5_isPrimitive 63 = .ok (.iconst 3, 1) := dk_6 (dk_at dksX5_isPrimitive_2 15 rfl rfl)
theorem dX5_isPrimitive_64 : decode cX5_isPrimitive 64 = .ok (.laload, 1) := dk_47 (dk_at dksX5_isPrimitive_2 16 rfl rfl)
theorem dX5_isPrimitive_65 : decode cX5_isPrimitive 65 = .ok (.ldc2_w 77, 3) := dk_20 0 77 (dk_at dksX5_isPrimitive_2 17 rfl rfl)
theorem dX5_isPrimitive_68 : decode cX5_isPrimitive 68 = .ok (.ldiv, 1) := dk_109 (dk_at dksX5_isPrimitive_2 20 rfl rfl)
theorem dX5_isPrimitive_69 : decode cX5_isPrimitive 69 = .ok (.invokestatic 59, 3) := dk_184 0 59 (dk_at dksX5_isPrimitive_2 21 rfl rfl)
theorem dX5_isPrimitive_72 : decode cX5_isPrimitive 72 = .ok (.ifCond .eq 7, 3) := dk_153 0 7 (dk_at dksX5_isPrimitive_3 0 rfl rfl)
theorem dX5_isPrimitive_75 : decode cX5_isPrimitive 75 = .ok (.iconst 1, 1) := dk_4 (dk_at dksX5_isPrimitive_3 3 rfl rfl)
theorem dX5_isPrimitive_76 : decode cX5_isPrimitive 76 = .ok (.goto 4, 3) := dk_167 0 4 (dk_at dksX5_isPrimitive_3 4 rfl rfl)
theorem dX5_isPrimitive_79 : decode cX5_isPrimitive 79 = .ok (.iconst 0, 1) := dk_3 (dk_at dksX5_isPrimitive_3 7 rfl rfl)
theorem dX5_isPrimitive_80 : decode cX5_isPrimitive 80 = .ok (.istore 4, 2) := dk_54 4 (dk_at dksX5_isPrimitive_3 8 rfl rfl)
theorem dX5_isPrimitive_82 : decode cX5_isPrimitive 82 = .ok (.lload_n 2, 1) := dk_32 (dk_at dksX5_isPrimitive_3 10 rfl rfl)
theorem dX5_isPrimitive_83 : decode cX5_isPrimitive 83 = .ok (.ldc2_w 77, 3) := dk_20 0 77 (dk_at dksX5_isPrimitive_3 11 rfl rfl)
theorem dX5_isPrimitive_86 : decode cX5_isPrimitive 86 = .ok (.lrem, 1) := dk_113 (dk_at dksX5_isPrimitive_3 14 rfl rfl)
theorem dX5_isPrimitive_87 : decode cX5_isPrimitive 87 = .ok (.lconst 0, 1) := dk_9 (dk_at dksX5_isPrimitive_3 15 rfl rfl)
theorem dX5_isPrimitive_88 : decode cX5_isPrimitive 88 = .ok (.lcmp, 1) := dk_148 (dk_at dksX5_isPrimitive_3 16 rfl rfl)
theorem dX5_isPrimitive_89 : decode cX5_isPrimitive 89 = .ok (.ifCond .ne 12, 3) := dk_154 0 12 (dk_at dksX5_isPrimitive_3 17 rfl rfl)
theorem dX5_isPrimitive_92 : decode cX5_isPrimitive 92 = .ok (.lload_n 2, 1) := dk_32 (dk_at dksX5_isPrimitive_3 20 rfl rfl)
theorem dX5_isPrimitive_93 : decode cX5_isPrimitive 93 = .ok (.ldc2_w 77, 3) := dk_20 0 77 (dk_at dksX5_isPrimitive_3 21 rfl rfl)
theorem dX5_isPrimitive_96 : decode cX5_isPrimitive 96 = .ok (.ldiv, 1) := dk_109 (dk_at dksX5_isPrimitive_4 0 rfl rfl)
theorem dX5_isPrimitive_97 : decode cX5_isPrimitive 97 = .ok (.lstore_n 2, 1) := dk_65 (dk_at dksX5_isPrimitive_4 1 rfl rfl)
theorem dX5_isPrimitive_98 : decode cX5_isPrimitive 98 = .ok (.goto (-16), 3) := dk_167 255 240 (dk_at dksX5_isPrimitive_4 2 rfl rfl)
theorem dX5_isPrimitive_101 : decode cX5_isPrimitive 101 = .ok (.lload_n 2, 1) := dk_32 (dk_at dksX5_isPrimitive_4 5 rfl rfl)
theorem dX5_isPrimitive_102 : decode cX5_isPrimitive 102 = .ok (.lconst 1, 1) := dk_10 (dk_at dksX5_isPrimitive_4 6 rfl rfl)
theorem dX5_isPrimitive_103 : decode cX5_isPrimitive 103 = .ok (.lcmp, 1) := dk_148 (dk_at dksX5_isPrimitive_4 7 rfl rfl)
theorem dX5_isPrimitive_104 : decode cX5_isPrimitive 104 = .ok (.ifCond .ne 12, 3) := dk_154 0 12 (dk_at dksX5_isPrimitive_4 8 rfl rfl)
theorem dX5_isPrimitive_107 : decode cX5_isPrimitive 107 = .ok (.iload 4, 2) := dk_21 4 (dk_at dksX5_isPrimitive_4 11 rfl rfl)
theorem dX5_isPrimitive_109 : decode cX5_isPrimitive 109 = .ok (.ifCond .ne 7, 3) := dk_154 0 7 (dk_at dksX5_isPrimitive_4 13 rfl rfl)
theorem dX5_isPrimitive_112 : decode cX5_isPrimitive 112 = .ok (.iconst 1, 1) := dk_4 (dk_at dksX5_isPrimitive_4 16 rfl rfl)
theorem dX5_isPrimitive_113 : decode cX5_isPrimitive 113 = .ok (.goto 4, 3) := dk_167 0 4 (dk_at dksX5_isPrimitive_4 17 rfl rfl)
theorem dX5_isPrimitive_116 : decode cX5_isPrimitive 116 = .ok (.iconst 0, 1) := dk_3 (dk_at dksX5_isPrimitive_4 20 rfl rfl)
theorem dX5_isPrimitive_117 : decode cX5_isPrimitive 117 = .ok (.ireturn, 1) := dk_172 (dk_at dksX5_isPrimitive_4 21 rfl rfl)
abbrev cX5_isNull : ByteArray := prog_9_method_23_code
def yX5_isNull : MethodName := ⟨RX5, "isNull", "([J)Z"⟩
def dkwX5_isNull_1 : List UInt8 := [42, 6, 47, 9, 148, 154, 0, 7, 4, 167, 0, 4, 3, 172]
abbrev dktX5_isNull_1 : List UInt8 := dkwX5_isNull_1 ++ []
def dkwX5_isNull_0 : List UInt8 := [42, 3, 47, 9, 148, 154, 0, 31, 42, 4, 47, 9, 148, 154, 0, 23, 42, 5, 47, 9, 148, 154, 0, 15]
abbrev dktX5_isNull_0 : List UInt8 := dkwX5_isNull_0 ++ dktX5_isNull_1
theorem dksX5_isNull_0 : cX5_isNull.data.toList.drop 0 = dktX5_isNull_0 := by decide +kernel
theorem dksX5_isNull_1 : cX5_isNull.data.toList.drop 24 = dktX5_isNull_1 := dk_seg dksX5_isNull_0 24 rfl rfl
theorem dX5_isNull_0 : decode cX5_isNull 0 = .ok (.aload_n 0, 1) := dk_42 (dk_at dksX5_isNull_0 0 rfl rfl)
theorem dX5_isNull_1 : decode cX5_isNull 1 = .ok (.iconst 0, 1) := dk_3 (dk_at dksX5_isNull_0 1 rfl rfl)
theorem dX5_isNull_2 : decode cX5_isNull 2 = .ok (.laload, 1) := dk_47 (dk_at dksX5_isNull_0 2 rfl rfl)
theorem dX5_isNull_3 : decode cX5_isNull 3 = .ok (.lconst 0, 1) := dk_9 (dk_at dksX5_isNull_0 3 rfl rfl)
theorem dX5_isNull_4 : decode cX5_isNull 4 = .ok (.lcmp, 1) := dk_148 (dk_at dksX5_isNull_0 4 rfl rfl)
theorem dX5_isNull_5 : decode cX5_isNull 5 = .ok (.ifCond .ne 31, 3) := dk_154 0 31 (dk_at dksX5_isNull_0 5 rfl rfl)
theorem dX5_isNull_8 : decode cX5_isNull 8 = .ok (.aload_n 0, 1) := dk_42 (dk_at dksX5_isNull_0 8 rfl rfl)
theorem dX5_isNull_9 : decode cX5_isNull 9 = .ok (.iconst 1, 1) := dk_4 (dk_at dksX5_isNull_0 9 rfl rfl)
theorem dX5_isNull_10 : decode cX5_isNull 10 = .ok (.laload, 1) := dk_47 (dk_at dksX5_isNull_0 10 rfl rfl)
theorem dX5_isNull_11 : decode cX5_isNull 11 = .ok (.lconst 0, 1) := dk_9 (dk_at dksX5_isNull_0 11 rfl rfl)
theorem dX5_isNull_12 : decode cX5_isNull 12 = .ok (.lcmp, 1) := dk_148 (dk_at dksX5_isNull_0 12 rfl rfl)
theorem dX5_isNull_13 : decode cX5_isNull 13 = .ok (.ifCond .ne 23, 3) := dk_154 0 23 (dk_at dksX5_isNull_0 13 rfl rfl)
theorem dX5_isNull_16 : decode cX5_isNull 16 = .ok (.aload_n 0, 1) := dk_42 (dk_at dksX5_isNull_0 16 rfl rfl)
theorem dX5_isNull_17 : decode cX5_isNull 17 = .ok (.iconst 2, 1) := dk_5 (dk_at dksX5_isNull_0 17 rfl rfl)
theorem dX5_isNull_18 : decode cX5_isNull 18 = .ok (.laload, 1) := dk_47 (dk_at dksX5_isNull_0 18 rfl rfl)
theorem dX5_isNull_19 : decode cX5_isNull 19 = .ok (.lconst 0, 1) := dk_9 (dk_at dksX5_isNull_0 19 rfl rfl)
theorem dX5_isNull_20 : decode cX5_isNull 20 = .ok (.lcmp, 1) := dk_148 (dk_at dksX5_isNull_0 20 rfl rfl)
theorem dX5_isNull_21 : decode cX5_isNull 21 = .ok (.ifCond .ne 15, 3) := dk_154 0 15 (dk_at dksX5_isNull_0 21 rfl rfl)
theorem dX5_isNull_24 : decode cX5_isNull 24 = .ok (.aload_n 0, 1) := dk_42 (dk_at dksX5_isNull_1 0 rfl rfl)
theorem dX5_isNull_25 : decode cX5_isNull 25 = .ok (.iconst 3, 1) := dk_6 (dk_at dksX5_isNull_1 1 rfl rfl)
theorem dX5_isNull_26 : decode cX5_isNull 26 = .ok (.laload, 1) := dk_47 (dk_at dksX5_isNull_1 2 rfl rfl)
theorem dX5_isNull_27 : decode cX5_isNull 27 = .ok (.lconst 0, 1) := dk_9 (dk_at dksX5_isNull_1 3 rfl rfl)
theorem dX5_isNull_28 : decode cX5_isNull 28 = .ok (.lcmp, 1) := dk_148 (dk_at dksX5_isNull_1 4 rfl rfl)
theorem dX5_isNull_29 : decode cX5_isNull 29 = .ok (.ifCond .ne 7, 3) := dk_154 0 7 (dk_at dksX5_isNull_1 5 rfl rfl)
theorem dX5_isNull_32 : decode cX5_isNull 32 = .ok (.iconst 1, 1) := dk_4 (dk_at dksX5_isNull_1 8 rfl rfl)
theorem dX5_isNull_33 : decode cX5_isNull 33 = .ok (.goto 4, 3) := dk_167 0 4 (dk_at dksX5_isNull_1 9 rfl rfl)
theorem dX5_isNull_36 : decode cX5_isNull 36 = .ok (.iconst 0, 1) := dk_3 (dk_at dksX5_isNull_1 12 rfl rfl)
theorem dX5_isNull_37 : decode cX5_isNull 37 = .ok (.ireturn, 1) := dk_172 (dk_at dksX5_isNull_1 13 rfl rfl)
abbrev cX5_common : ByteArray := prog_9_method_27_code
def yX5_common : MethodName := ⟨RX5, "common", "(JJ)J"⟩
def dkwX5_common_2 : List UInt8 := [22, 8, 55, 6, 167, 255, 234, 22, 4, 173]
abbrev dktX5_common_2 : List UInt8 := dkwX5_common_2 ++ []
def dkwX5_common_1 : List UInt8 := [167, 0, 4, 32, 55, 6, 22, 6, 9, 148, 153, 0, 21, 22, 4, 22, 6, 113, 55, 8, 22, 6, 55, 4]
abbrev dktX5_common_1 : List UInt8 := dkwX5_common_1 ++ dktX5_common_2
def dkwX5_common_0 : List UInt8 := [30, 9, 148, 156, 0, 8, 30, 117, 167, 0, 4, 30, 55, 4, 32, 9, 148, 156, 0, 8, 32, 117]
abbrev dktX5_common_0 : List UInt8 := dkwX5_common_0 ++ dktX5_common_1
theorem dksX5_common_0 : cX5_common.data.toList.drop 0 = dktX5_common_0 := by decide +kernel
theorem dksX5_common_1 : cX5_common.data.toList.drop 22 = dktX5_common_1 := dk_seg dksX5_common_0 22 rfl rfl
theorem dksX5_common_2 : cX5_common.data.toList.drop 46 = dktX5_common_2 := dk_seg dksX5_common_1 24 rfl rfl
theorem dX5_common_0 : decode cX5_common 0 = .ok (.lload_n 0, 1) := dk_30 (dk_at dksX5_common_0 0 rfl rfl)
theorem dX5_common_1 : decode cX5_common 1 = .ok (.lconst 0, 1) := dk_9 (dk_at dksX5_common_0 1 rfl rfl)
theorem dX5_common_2 : decode cX5_common 2 = .ok (.lcmp, 1) := dk_148 (dk_at dksX5_common_0 2 rfl rfl)
theorem dX5_common_3 : decode cX5_common 3 = .ok (.ifCond .ge 8, 3) := dk_156 0 8 (dk_at dksX5_common_0 3 rfl rfl)
theorem dX5_common_6 : decode cX5_common 6 = .ok (.lload_n 0, 1) := dk_30 (dk_at dksX5_common_0 6 rfl rfl)
theorem dX5_common_7 : decode cX5_common 7 = .ok (.lneg, 1) := dk_117 (dk_at dksX5_common_0 7 rfl rfl)
theorem dX5_common_8 : decode cX5_common 8 = .ok (.goto 4, 3) := dk_167 0 4 (dk_at dksX5_common_0 8 rfl rfl)
theorem dX5_common_11 : decode cX5_common 11 = .ok (.lload_n 0, 1) := dk_30 (dk_at dksX5_common_0 11 rfl rfl)
theorem dX5_common_12 : decode cX5_common 12 = .ok (.lstore 4, 2) := dk_55 4 (dk_at dksX5_common_0 12 rfl rfl)
theorem dX5_common_14 : decode cX5_common 14 = .ok (.lload_n 2, 1) := dk_32 (dk_at dksX5_common_0 14 rfl rfl)
theorem dX5_common_15 : decode cX5_common 15 = .ok (.lconst 0, 1) := dk_9 (dk_at dksX5_common_0 15 rfl rfl)
theorem dX5_common_16 : decode cX5_common 16 = .ok (.lcmp, 1) := dk_148 (dk_at dksX5_common_0 16 rfl rfl)
theorem dX5_common_17 : decode cX5_common 17 = .ok (.ifCond .ge 8, 3) := dk_156 0 8 (dk_at dksX5_common_0 17 rfl rfl)
theorem dX5_common_20 : decode cX5_common 20 = .ok (.lload_n 2, 1) := dk_32 (dk_at dksX5_common_0 20 rfl rfl)
theorem dX5_common_21 : decode cX5_common 21 = .ok (.lneg, 1) := dk_117 (dk_at dksX5_common_0 21 rfl rfl)
theorem dX5_common_22 : decode cX5_common 22 = .ok (.goto 4, 3) := dk_167 0 4 (dk_at dksX5_common_1 0 rfl rfl)
theorem dX5_common_25 : decode cX5_common 25 = .ok (.lload_n 2, 1) := dk_32 (dk_at dksX5_common_1 3 rfl rfl)
theorem dX5_common_26 : decode cX5_common 26 = .ok (.lstore 6, 2) := dk_55 6 (dk_at dksX5_common_1 4 rfl rfl)
theorem dX5_common_28 : decode cX5_common 28 = .ok (.lload 6, 2) := dk_22 6 (dk_at dksX5_common_1 6 rfl rfl)
theorem dX5_common_30 : decode cX5_common 30 = .ok (.lconst 0, 1) := dk_9 (dk_at dksX5_common_1 8 rfl rfl)
theorem dX5_common_31 : decode cX5_common 31 = .ok (.lcmp, 1) := dk_148 (dk_at dksX5_common_1 9 rfl rfl)
theorem dX5_common_32 : decode cX5_common 32 = .ok (.ifCond .eq 21, 3) := dk_153 0 21 (dk_at dksX5_common_1 10 rfl rfl)
theorem dX5_common_35 : decode cX5_common 35 = .ok (.lload 4, 2) := dk_22 4 (dk_at dksX5_common_1 13 rfl rfl)
theorem dX5_common_37 : decode cX5_common 37 = .ok (.lload 6, 2) := dk_22 6 (dk_at dksX5_common_1 15 rfl rfl)
theorem dX5_common_39 : decode cX5_common 39 = .ok (.lrem, 1) := dk_113 (dk_at dksX5_common_1 17 rfl rfl)
theorem dX5_common_40 : decode cX5_common 40 = .ok (.lstore 8, 2) := dk_55 8 (dk_at dksX5_common_1 18 rfl rfl)
theorem dX5_common_42 : decode cX5_common 42 = .ok (.lload 6, 2) := dk_22 6 (dk_at dksX5_common_1 20 rfl rfl)
theorem dX5_common_44 : decode cX5_common 44 = .ok (.lstore 4, 2) := dk_55 4 (dk_at dksX5_common_1 22 rfl rfl)
theorem dX5_common_46 : decode cX5_common 46 = .ok (.lload 8, 2) := dk_22 8 (dk_at dksX5_common_2 0 rfl rfl)
theorem dX5_common_48 : decode cX5_common 48 = .ok (.lstore 6, 2) := dk_55 6 (dk_at dksX5_common_2 2 rfl rfl)
theorem dX5_common_50 : decode cX5_common 50 = .ok (.goto (-22), 3) := dk_167 255 234 (dk_at dksX5_common_2 4 rfl rfl)
theorem dX5_common_53 : decode cX5_common 53 = .ok (.lload 4, 2) := dk_22 4 (dk_at dksX5_common_2 7 rfl rfl)
theorem dX5_common_55 : decode cX5_common 55 = .ok (.lreturn, 1) := dk_173 (dk_at dksX5_common_2 9 rfl rfl)
abbrev cX5_unitOf : ByteArray := prog_9_method_29_code
def yX5_unitOf : MethodName := ⟨RX5, "unitOf", "([J)I"⟩
def dkwX5_unitOf_3 : List UInt8 := [6, 96, 46, 133, 148, 154, 0, 5, 28, 172, 132, 2, 1, 167, 255, 175, 16, 252, 172]
abbrev dktX5_unitOf_3 : List UInt8 := dkwX5_unitOf_3 ++ []
def dkwX5_unitOf_2 : List UInt8 := [180, 0, 23, 7, 28, 104, 5, 96, 46, 133, 148, 154, 0, 23, 43, 6, 47, 42, 180, 0, 23, 7, 28, 104]
abbrev dktX5_unitOf_2 : List UInt8 := dkwX5_unitOf_2 ++ dktX5_unitOf_3
def dkwX5_unitOf_1 : List UInt8 := [43, 4, 47, 42, 180, 0, 23, 7, 28, 104, 4, 96, 46, 133, 148, 154, 0, 41, 43, 5, 47, 42]
abbrev dktX5_unitOf_1 : List UInt8 := dkwX5_unitOf_1 ++ dktX5_unitOf_2
def dkwX5_unitOf_0 : List UInt8 := [3, 61, 28, 16, 24, 162, 0, 81, 43, 3, 47, 42, 180, 0, 23, 7, 28, 104, 46, 133, 148, 154, 0, 59]
abbrev dktX5_unitOf_0 : List UInt8 := dkwX5_unitOf_0 ++ dktX5_unitOf_1
theorem dksX5_unitOf_0 : cX5_unitOf.data.toList.drop 0 = dktX5_unitOf_0 := by decide +kernel
theorem dksX5_unitOf_1 : cX5_unitOf.data.toList.drop 24 = dktX5_unitOf_1 := dk_seg dksX5_unitOf_0 24 rfl rfl
theorem dksX5_unitOf_2 : cX5_unitOf.data.toList.drop 46 = dktX5_unitOf_2 := dk_seg dksX5_unitOf_1 22 rfl rfl
theorem dksX5_unitOf_3 : cX5_unitOf.data.toList.drop 70 = dktX5_unitOf_3 := dk_seg dksX5_unitOf_2 24 rfl rfl
theorem dX5_unitOf_0 : decode cX5_unitOf 0 = .ok (.iconst 0, 1) := dk_3 (dk_at dksX5_unitOf_0 0 rfl rfl)
theorem dX5_unitOf_1 : decode cX5_unitOf 1 = .ok (.istore_n 2, 1) := dk_61 (dk_at dksX5_unitOf_0 1 rfl rfl)
theorem dX5_unitOf_2 : decode cX5_unitOf 2 = .ok (.iload_n 2, 1) := dk_28 (dk_at dksX5_unitOf_0 2 rfl rfl)
theorem dX5_unitOf_3 : decode cX5_unitOf 3 = .ok (.bipush 24, 2) := dk_16 24 (dk_at dksX5_unitOf_0 3 rfl rfl)
theorem dX5_unitOf_5 : decode cX5_unitOf 5 = .ok (.if_icmp .ge 81, 3) := dk_162 0 81 (dk_at dksX5_unitOf_0 5 rfl rfl)
theorem dX5_unitOf_8 : decode cX5_unitOf 8 = .ok (.aload_n 1, 1) := dk_43 (dk_at dksX5_unitOf_0 8 rfl rfl)
theorem dX5_unitOf_9 : decode cX5_unitOf 9 = .ok (.iconst 0, 1) := dk_3 (dk_at dksX5_unitOf_0 9 rfl rfl)
theorem dX5_unitOf_10 : decode cX5_unitOf 10 = .ok (.laload, 1) := dk_47 (dk_at dksX5_unitOf_0 10 rfl rfl)
theorem dX5_unitOf_11 : decode cX5_unitOf 11 = .ok (.aload_n 0, 1) := dk_42 (dk_at dksX5_unitOf_0 11 rfl rfl)
theorem dX5_unitOf_12 : decode cX5_unitOf 12 = .ok (.getfield 23, 3) := dk_180 0 23 (dk_at dksX5_unitOf_0 12 rfl rfl)
theorem dX5_unitOf_15 : decode cX5_unitOf 15 = .ok (.iconst 4, 1) := dk_7 (dk_at dksX5_unitOf_0 15 rfl rfl)
theorem dX5_unitOf_16 : decode cX5_unitOf 16 = .ok (.iload_n 2, 1) := dk_28 (dk_at dksX5_unitOf_0 16 rfl rfl)
theorem dX5_unitOf_17 : decode cX5_unitOf 17 = .ok (.imul, 1) := dk_104 (dk_at dksX5_unitOf_0 17 rfl rfl)
theorem dX5_unitOf_18 : decode cX5_unitOf 18 = .ok (.iaload, 1) := dk_46 (dk_at dksX5_unitOf_0 18 rfl rfl)
theorem dX5_unitOf_19 : decode cX5_unitOf 19 = .ok (.i2l, 1) := dk_133 (dk_at dksX5_unitOf_0 19 rfl rfl)
theorem dX5_unitOf_20 : decode cX5_unitOf 20 = .ok (.lcmp, 1) := dk_148 (dk_at dksX5_unitOf_0 20 rfl rfl)
theorem dX5_unitOf_21 : decode cX5_unitOf 21 = .ok (.ifCond .ne 59, 3) := dk_154 0 59 (dk_at dksX5_unitOf_0 21 rfl rfl)
theorem dX5_unitOf_24 : decode cX5_unitOf 24 = .ok (.aload_n 1, 1) := dk_43 (dk_at dksX5_unitOf_1 0 rfl rfl)
theorem dX5_unitOf_25 : decode cX5_unitOf 25 = .ok (.iconst 1, 1) := dk_4 (dk_at dksX5_unitOf_1 1 rfl rfl)
theorem dX5_unitOf_26 : decode cX5_unitOf 26 = .ok (.laload, 1) := dk_47 (dk_at dksX5_unitOf_1 2 rfl rfl)
theorem dX5_unitOf_27 : decode cX5_unitOf 27 = .ok (.aload_n 0, 1) := dk_42 (dk_at dksX5_unitOf_1 3 rfl rfl)
theorem dX5_unitOf_28 : decode cX5_unitOf 28 = .ok (.getfield 23, 3) := dk_180 0 23 (dk_at dksX5_unitOf_1 4 rfl rfl)
theorem dX5_unitOf_31 : decode cX5_unitOf 31 = .ok (.iconst 4, 1) := dk_7 (dk_at dksX5_unitOf_1 7 rfl rfl)
theorem dX5_unitOf_32 : decode cX5_unitOf 32 = .ok (.iload_n 2, 1) := dk_28 (dk_at dksX5_unitOf_1 8 rfl rfl)
theorem dX5_unitOf_33 : decode cX5_unitOf 33 = .ok (.imul, 1) := dk_104 (dk_at dksX5_unitOf_1 9 rfl rfl)
theorem dX5_unitOf_34 : decode cX5_unitOf 34 = .ok (.iconst 1, 1) := dk_4 (dk_at dksX5_unitOf_1 10 rfl rfl)
theorem dX5_unitOf_35 : decode cX5_unitOf 35 = .ok (.iadd, 1) := dk_96 (dk_at dksX5_unitOf_1 11 rfl rfl)
theorem dX5_unitOf_36 : decode cX5_unitOf 36 = .ok (.iaload, 1) := dk_46 (dk_at dksX5_unitOf_1 12 rfl rfl)
theorem dX5_unitOf_37 : decode cX5_unitOf 37 = .ok (.i2l, 1) := dk_133 (dk_at dksX5_unitOf_1 13 rfl rfl)
theorem dX5_unitOf_38 : decode cX5_unitOf 38 = .ok (.lcmp, 1) := dk_148 (dk_at dksX5_unitOf_1 14 rfl rfl)
theorem dX5_unitOf_39 : decode cX5_unitOf 39 = .ok (.ifCond .ne 41, 3) := dk_154 0 41 (dk_at dksX5_unitOf_1 15 rfl rfl)
theorem dX5_unitOf_42 : decode cX5_unitOf 42 = .ok (.aload_n 1, 1) := dk_43 (dk_at dksX5_unitOf_1 18 rfl rfl)
theorem dX5_unitOf_43 : decode cX5_unitOf 43 = .ok (.iconst 2, 1) := dk_5 (dk_at dksX5_unitOf_1 19 rfl rfl)
theorem dX5_unitOf_44 : decode cX5_unitOf 44 = .ok (.laload, 1) := dk_47 (dk_at dksX5_unitOf_1 20 rfl rfl)
theorem dX5_unitOf_45 : decode cX5_unitOf 45 = .ok (.aload_n 0, 1) := dk_42 (dk_at dksX5_unitOf_1 21 rfl rfl)
theorem dX5_unitOf_46 : decode cX5_unitOf 46 = .ok (.getfield 23, 3) := dk_180 0 23 (dk_at dksX5_unitOf_2 0 rfl rfl)
theorem dX5_unitOf_49 : decode cX5_unitOf 49 = .ok (.iconst 4, 1) := dk_7 (dk_at dksX5_unitOf_2 3 rfl rfl)
theorem dX5_unitOf_50 : decode cX5_unitOf 50 = .ok (.iload_n 2, 1) := dk_28 (dk_at dksX5_unitOf_2 4 rfl rfl)
theorem dX5_unitOf_51 : decode cX5_unitOf 51 = .ok (.imul, 1) := dk_104 (dk_at dksX5_unitOf_2 5 rfl rfl)
theorem dX5_unitOf_52 : decode cX5_unitOf 52 = .ok (.iconst 2, 1) := dk_5 (dk_at dksX5_unitOf_2 6 rfl rfl)
theorem dX5_unitOf_53 : decode cX5_unitOf 53 = .ok (.iadd, 1) := dk_96 (dk_at dksX5_unitOf_2 7 rfl rfl)
theorem dX5_unitOf_54 : decode cX5_unitOf 54 = .ok (.iaload, 1) := dk_46 (dk_at dksX5_unitOf_2 8 rfl rfl)
theorem dX5_unitOf_55 : decode cX5_unitOf 55 = .ok (.i2l, 1) := dk_133 (dk_at dksX5_unitOf_2 9 rfl rfl)
theorem dX5_unitOf_56 : decode cX5_unitOf 56 = .ok (.lcmp, 1) := dk_148 (dk_at dksX5_unitOf_2 10 rfl rfl)
theorem dX5_unitOf_57 : decode cX5_unitOf 57 = .ok (.ifCond .ne 23, 3) := dk_154 0 23 (dk_at dksX5_unitOf_2 11 rfl rfl)
theorem dX5_unitOf_60 : decode cX5_unitOf 60 = .ok (.aload_n 1, 1) := dk_43 (dk_at dksX5_unitOf_2 14 rfl rfl)
theorem dX5_unitOf_61 : decode cX5_unitOf 61 = .ok (.iconst 3, 1) := dk_6 (dk_at dksX5_unitOf_2 15 rfl rfl)
theorem dX5_unitOf_62 : decode cX5_unitOf 62 = .ok (.laload, 1) := dk_47 (dk_at dksX5_unitOf_2 16 rfl rfl)
theorem dX5_unitOf_63 : decode cX5_unitOf 63 = .ok (.aload_n 0, 1) := dk_42 (dk_at dksX5_unitOf_2 17 rfl rfl)
theorem dX5_unitOf_64 : decode cX5_unitOf 64 = .ok (.getfield 23, 3) := dk_180 0 23 (dk_at dksX5_unitOf_2 18 rfl rfl)
theorem dX5_unitOf_67 : decode cX5_unitOf 67 = .ok (.iconst 4, 1) := dk_7 (dk_at dksX5_unitOf_2 21 rfl rfl)
theorem dX5_unitOf_68 : decode cX5_unitOf 68 = .ok (.iload_n 2, 1) := dk_28 (dk_at dksX5_unitOf_2 22 rfl rfl)
theorem dX5_unitOf_69 : decode cX5_unitOf 69 = .ok (.imul, 1) := dk_104 (dk_at dksX5_unitOf_2 23 rfl rfl)
theorem dX5_unitOf_70 : decode cX5_unitOf 70 = .ok (.iconst 3, 1) := dk_6 (dk_at dksX5_unitOf_3 0 rfl rfl)
theorem dX5_unitOf_71 : decode cX5_unitOf 71 = .ok (.iadd, 1) := dk_96 (dk_at dksX5_unitOf_3 1 rfl rfl)
theorem dX5_unitOf_72 : decode cX5_unitOf 72 = .ok (.iaload, 1) := dk_46 (dk_at dksX5_unitOf_3 2 rfl rfl)
theorem dX5_unitOf_73 : decode cX5_unitOf 73 = .ok (.i2l, 1) := dk_133 (dk_at dksX5_unitOf_3 3 rfl rfl)
theorem dX5_unitOf_74 : decode cX5_unitOf 74 = .ok (.lcmp, 1) := dk_148 (dk_at dksX5_unitOf_3 4 rfl rfl)
theorem dX5_unitOf_75 : decode cX5_unitOf 75 = .ok (.ifCond .ne 5, 3) := dk_154 0 5 (dk_at dksX5_unitOf_3 5 rfl rfl)
theorem dX5_unitOf_78 : decode cX5_unitOf 78 = .ok (.iload_n 2, 1) := dk_28 (dk_at dksX5_unitOf_3 8 rfl rfl)
theorem dX5_unitOf_79 : decode cX5_unitOf 79 = .ok (.ireturn, 1) := dk_172 (dk_at dksX5_unitOf_3 9 rfl rfl)
theorem dX5_unitOf_80 : decode cX5_unitOf 80 = .ok (.iinc 2 1, 3) := dk_132 2 1 (dk_at dksX5_unitOf_3 10 rfl rfl)
theorem dX5_unitOf_83 : decode cX5_unitOf 83 = .ok (.goto (-81), 3) := dk_167 255 175 (dk_at dksX5_unitOf_3 13 rfl rfl)
theorem dX5_unitOf_86 : decode cX5_unitOf 86 = .ok (.bipush (-4), 2) := dk_16 252 (dk_at dksX5_unitOf_3 16 rfl rfl)
theorem dX5_unitOf_88 : decode cX5_unitOf 88 = .ok (.ireturn, 1) := dk_172 (dk_at dksX5_unitOf_3 18 rfl rfl)
abbrev cX5_work : ByteArray := prog_9_method_31_code
def yX5_work : MethodName := ⟨RX5, "work", "(IIII)I"⟩
def dkwX5_work_7 : List UInt8 := [132, 5, 1, 167, 255, 203, 42, 27, 42, 180, 0, 38, 182, 0, 108, 172]
abbrev dktX5_work_7 : List UInt8 := dkwX5_work_7 ++ []
def dkwX5_work_6 : List UInt8 := [21, 5, 47, 97, 167, 0, 18, 42, 180, 0, 32, 21, 5, 47, 42, 180, 0, 35, 21, 5, 47, 101, 80]
abbrev dktX5_work_6 : List UInt8 := dkwX5_work_6 ++ dktX5_work_7
def dkwX5_work_5 : List UInt8 := [162, 0, 53, 42, 180, 0, 38, 21, 5, 28, 154, 0, 21, 42, 180, 0, 32, 21, 5, 47, 42, 180, 0, 35]
abbrev dktX5_work_5 : List UInt8 := dkwX5_work_5 ++ dktX5_work_6
def dkwX5_work_4 : List UInt8 := [42, 180, 0, 35, 184, 0, 143, 42, 27, 42, 180, 0, 38, 182, 0, 108, 172, 3, 54, 5, 21, 5, 7]
abbrev dktX5_work_4 : List UInt8 := dkwX5_work_4 ++ dktX5_work_5
def dkwX5_work_3 : List UInt8 := [172, 42, 42, 180, 0, 35, 21, 4, 182, 0, 122, 28, 5, 160, 0, 28, 42, 180, 0, 38, 42, 180, 0, 32]
abbrev dktX5_work_3 : List UInt8 := dkwX5_work_3 ++ dktX5_work_4
def dkwX5_work_2 : List UInt8 := [182, 0, 122, 28, 6, 160, 0, 20, 42, 180, 0, 32, 184, 0, 139, 42, 27, 42, 180, 0, 32, 182, 0, 108]
abbrev dktX5_work_2 : List UInt8 := dkwX5_work_2 ++ dktX5_work_3
def dkwX5_work_1 : List UInt8 := [153, 0, 16, 28, 6, 162, 0, 13, 21, 4, 184, 0, 91, 154, 0, 5, 2, 172, 42, 42, 180, 0, 32, 29]
abbrev dktX5_work_1 : List UInt8 := dkwX5_work_1 ++ dktX5_work_2
def dkwX5_work_0 : List UInt8 := [27, 184, 0, 91, 153, 0, 35, 28, 133, 9, 20, 0, 137, 184, 0, 65, 153, 0, 23, 29, 184, 0, 91]
abbrev dktX5_work_0 : List UInt8 := dkwX5_work_0 ++ dktX5_work_1
theorem dksX5_work_0 : cX5_work.data.toList.drop 0 = dktX5_work_0 := by decide +kernel
theorem dksX5_work_1 : cX5_work.data.toList.drop 23 = dktX5_work_1 := dk_seg dksX5_work_0 23 rfl rfl
theorem dksX5_work_2 : cX5_work.data.toList.drop 47 = dktX5_work_2 := dk_seg dksX5_work_1 24 rfl rfl
theorem dksX5_work_3 : cX5_work.data.toList.drop 71 = dktX5_work_3 := dk_seg dksX5_work_2 24 rfl rfl
theorem dksX5_work_4 : cX5_work.data.toList.drop 95 = dktX5_work_4 := dk_seg dksX5_work_3 24 rfl rfl
theorem dksX5_work_5 : cX5_work.data.toList.drop 118 = dktX5_work_5 := dk_seg dksX5_work_4 23 rfl rfl
theorem dksX5_work_6 : cX5_work.data.toList.drop 142 = dktX5_work_6 := dk_seg dksX5_work_5 24 rfl rfl
theorem dksX5_work_7 : cX5_work.data.toList.drop 165 = dktX5_work_7 := dk_seg dksX5_work_6 23 rfl rfl
theorem dX5_work_0 : decode cX5_work 0 = .ok (.iload_n 1, 1) := dk_27 (dk_at dksX5_work_0 0 rfl rfl)
theorem dX5_work_1 : decode cX5_work 1 = .ok (.invokestatic 91, 3) := dk_184 0 91 (dk_at dksX5_work_0 1 rfl rfl)
theorem dX5_work_4 : decode cX5_work 4 = .ok (.ifCond .eq 35, 3) := dk_153 0 35 (dk_at dksX5_work_0 4 rfl rfl)
theorem dX5_work_7 : decode cX5_work 7 = .ok (.iload_n 2, 1) := dk_28 (dk_at dksX5_work_0 7 rfl rfl)
theorem dX5_work_8 : decode cX5_work 8 = .ok (.i2l, 1) := dk_133 (dk_at dksX5_work_0 8 rfl rfl)
theorem dX5_work_9 : decode cX5_work 9 = .ok (.lconst 0, 1) := dk_9 (dk_at dksX5_work_0 9 rfl rfl)
theorem dX5_work_10 : decode cX5_work 10 = .ok (.ldc2_w 137, 3) := dk_20 0 137 (dk_at dksX5_work_0 10 rfl rfl)
theorem dX5_work_13 : decode cX5_work 13 = .ok (.invokestatic 65, 3) := dk_184 0 65 (dk_at dksX5_work_0 13 rfl rfl)
theorem dX5_work_16 : decode cX5_work 16 = .ok (.ifCond .eq 23, 3) := dk_153 0 23 (dk_at dksX5_work_0 16 rfl rfl)
theorem dX5_work_19 : decode cX5_work 19 = .ok (.iload_n 3, 1) := dk_29 (dk_at dksX5_work_0 19 rfl rfl)
theorem dX5_work_20 : decode cX5_work 20 = .ok (.invokestatic 91, 3) := dk_184 0 91 (dk_at dksX5_work_0 20 rfl rfl)
theorem dX5_work_23 : decode cX5_work 23 = .ok (.ifCond .eq 16, 3) := dk_153 0 16 (dk_at dksX5_work_1 0 rfl rfl)
theorem dX5_work_26 : decode cX5_work 26 = .ok (.iload_n 2, 1) := dk_28 (dk_at dksX5_work_1 3 rfl rfl)
theorem dX5_work_27 : decode cX5_work 27 = .ok (.iconst 3, 1) := dk_6 (dk_at dksX5_work_1 4 rfl rfl)
theorem dX5_work_28 : decode cX5_work 28 = .ok (.if_icmp .ge 13, 3) := dk_162 0 13 (dk_at dksX5_work_1 5 rfl rfl)
theorem dX5_work_31 : decode cX5_work 31 = .ok (.iload 4, 2) := dk_21 4 (dk_at dksX5_work_1 8 rfl rfl)
theorem dX5_work_33 : decode cX5_work 33 = .ok (.invokestatic 91, 3) := dk_184 0 91 (dk_at dksX5_work_1 10 rfl rfl)
theorem dX5_work_36 : decode cX5_work 36 = .ok (.ifCond .ne 5, 3) := dk_154 0 5 (dk_at dksX5_work_1 13 rfl rfl)
theorem dX5_work_39 : decode cX5_work 39 = .ok (.iconst (-1), 1) := dk_2 (dk_at dksX5_work_1 16 rfl rfl)
theorem dX5_work_40 : decode cX5_work 40 = .ok (.ireturn, 1) := dk_172 (dk_at dksX5_work_1 17 rfl rfl)
theorem dX5_work_41 : decode cX5_work 41 = .ok (.aload_n 0, 1) := dk_42 (dk_at dksX5_work_1 18 rfl rfl)
theorem dX5_work_42 : decode cX5_work 42 = .ok (.aload_n 0, 1) := dk_42 (dk_at dksX5_work_1 19 rfl rfl)
theorem dX5_work_43 : decode cX5_work 43 = .ok (.getfield 32, 3) := dk_180 0 32 (dk_at dksX5_work_1 20 rfl rfl)
theorem dX5_work_46 : decode cX5_work 46 = .ok (.iload_n 3, 1) := dk_29 (dk_at dksX5_work_1 23 rfl rfl)
theorem dX5_work_47 : decode cX5_work 47 = .ok (.invokevirtual 122, 3) := dk_182 0 122 (dk_at dksX5_work_2 0 rfl rfl)
theorem dX5_work_50 : decode cX5_work 50 = .ok (.iload_n 2, 1) := dk_28 (dk_at dksX5_work_2 3 rfl rfl)
theorem dX5_work_51 : decode cX5_work 51 = .ok (.iconst 3, 1) := dk_6 (dk_at dksX5_work_2 4 rfl rfl)
theorem dX5_work_52 : decode cX5_work 52 = .ok (.if_icmp .ne 20, 3) := dk_160 0 20 (dk_at dksX5_work_2 5 rfl rfl)
theorem dX5_work_55 : decode cX5_work 55 = .ok (.aload_n 0, 1) := dk_42 (dk_at dksX5_work_2 8 rfl rfl)
theorem dX5_work_56 : decode cX5_work 56 = .ok (.getfield 32, 3) := dk_180 0 32 (dk_at dksX5_work_2 9 rfl rfl)
theorem dX5_work_59 : decode cX5_work 59 = .ok (.invokestatic 139, 3) := dk_184 0 139 (dk_at dksX5_work_2 12 rfl rfl)
theorem dX5_work_62 : decode cX5_work 62 = .ok (.aload_n 0, 1) := dk_42 (dk_at dksX5_work_2 15 rfl rfl)
theorem dX5_work_63 : decode cX5_work 63 = .ok (.iload_n 1, 1) := dk_27 (dk_at dksX5_work_2 16 rfl rfl)
theorem dX5_work_64 : decode cX5_work 64 = .ok (.aload_n 0, 1) := dk_42 (dk_at dksX5_work_2 17 rfl rfl)
theorem dX5_work_65 : decode cX5_work 65 = .ok (.getfield 32, 3) := dk_180 0 32 (dk_at dksX5_work_2 18 rfl rfl)
theorem dX5_work_68 : decode cX5_work 68 = .ok (.invokevirtual 108, 3) := dk_182 0 108 (dk_at dksX5_work_2 21 rfl rfl)
theorem dX5_work_71 : decode cX5_work 71 = .ok (.ireturn, 1) := dk_172 (dk_at dksX5_work_3 0 rfl rfl)
theorem dX5_work_72 : decode cX5_work 72 = .ok (.aload_n 0, 1) := dk_42 (dk_at dksX5_work_3 1 rfl rfl)
theorem dX5_work_73 : decode cX5_work 73 = .ok (.aload_n 0, 1) := dk_42 (dk_at dksX5_work_3 2 rfl rfl)
theorem dX5_work_74 : decode cX5_work 74 = .ok (.getfield 35, 3) := dk_180 0 35 (dk_at dksX5_work_3 3 rfl rfl)
theorem dX5_work_77 : decode cX5_work 77 = .ok (.iload 4, 2) := dk_21 4 (dk_at dksX5_work_3 6 rfl rfl)
theorem dX5_work_79 : decode cX5_work 79 = .ok (.invokevirtual 122, 3) := dk_182 0 122 (dk_at dksX5_work_3 8 rfl rfl)
theorem dX5_work_82 : decode cX5_work 82 = .ok (.iload_n 2, 1) := dk_28 (dk_at dksX5_work_3 11 rfl rfl)
theorem dX5_work_83 : decode cX5_work 83 = .ok (.iconst 2, 1) := dk_5 (dk_at dksX5_work_3 12 rfl rfl)
theorem dX5_work_84 : decode cX5_work 84 = .ok (.if_icmp .ne 28, 3) := dk_160 0 28 (dk_at dksX5_work_3 13 rfl rfl)
theorem dX5_work_87 : decode cX5_work 87 = .ok (.aload_n 0, 1) := dk_42 (dk_at dksX5_work_3 16 rfl rfl)
theorem dX5_work_88 : decode cX5_work 88 = .ok (.getfield 38, 3) := dk_180 0 38 (dk_at dksX5_work_3 17 rfl rfl)
theorem dX5_work_91 : decode cX5_work 91 = .ok (.aload_n 0, 1) := dk_42 (dk_at dksX5_work_3 20 rfl rfl)
theorem dX5_work_92 : decode cX5_work 92 = .ok (.getfield 32, 3) := dk_180 0 32 (dk_at dksX5_work_3 21 rfl rfl)
theorem dX5_work_95 : decode cX5_work 95 = .ok (.aload_n 0, 1) := dk_42 (dk_at dksX5_work_4 0 rfl rfl)
theorem dX5_work_96 : decode cX5_work 96 = .ok (.getfield 35, 3) := dk_180 0 35 (dk_at dksX5_work_4 1 rfl rfl)
theorem dX5_work_99 : decode cX5_work 99 = .ok (.invokestatic 143, 3) := dk_184 0 143 (dk_at dksX5_work_4 4 rfl rfl)
theorem dX5_work_102 : decode cX5_work 102 = .ok (.aload_n 0, 1) := dk_42 (dk_at dksX5_work_4 7 rfl rfl)
theorem dX5_work_103 : decode cX5_work 103 = .ok (.iload_n 1, 1) := dk_27 (dk_at dksX5_work_4 8 rfl rfl)
theorem dX5_work_104 : decode cX5_work 104 = .ok (.aload_n 0, 1) := dk_42 (dk_at dksX5_work_4 9 rfl rfl)
theorem dX5_work_105 : decode cX5_work 105 = .ok (.getfield 38, 3) := dk_180 0 38 (dk_at dksX5_work_4 10 rfl rfl)
theorem dX5_work_108 : decode cX5_work 108 = .ok (.invokevirtual 108, 3) := dk_182 0 108 (dk_at dksX5_work_4 13 rfl rfl)
theorem dX5_work_111 : decode cX5_work 111 = .ok (.ireturn, 1) := dk_172 (dk_at dksX5_work_4 16 rfl rfl)
theorem dX5_work_112 : decode cX5_work 112 = .ok (.iconst 0, 1) := dk_3 (dk_at dksX5_work_4 17 rfl rfl)
theorem dX5_work_113 : decode cX5_work 113 = .ok (.istore 5, 2) := dk_54 5 (dk_at dksX5_work_4 18 rfl rfl)
theorem dX5_work_115 : decode cX5_work 115 = .ok (.iload 5, 2) := dk_21 5 (dk_at dksX5_work_4 20 rfl rfl)
theorem dX5_work_117 : decode cX5_work 117 = .ok (.iconst 4, 1) := dk_7 (dk_at dksX5_work_4 22 rfl rfl)
theorem dX5_work_118 : decode cX5_work 118 = .ok (.if_icmp .ge 53, 3) := dk_162 0 53 (dk_at dksX5_work_5 0 rfl rfl)
theorem dX5_work_121 : decode cX5_work 121 = .ok (.aload_n 0, 1) := dk_42 (dk_at dksX5_work_5 3 rfl rfl)
theorem dX5_work_122 : decode cX5_work 122 = .ok (.getfield 38, 3) := dk_180 0 38 (dk_at dksX5_work_5 4 rfl rfl)
theorem dX5_work_125 : decode cX5_work 125 = .ok (.iload 5, 2) := dk_21 5 (dk_at dksX5_work_5 7 rfl rfl)
theorem dX5_work_127 : decode cX5_work 127 = .ok (.iload_n 2, 1) := dk_28 (dk_at dksX5_work_5 9 rfl rfl)
theorem dX5_work_128 : decode cX5_work 128 = .ok (.ifCond .ne 21, 3) := dk_154 0 21 (dk_at dksX5_work_5 10 rfl rfl)
theorem dX5_work_131 : decode cX5_work 131 = .ok (.aload_n 0, 1) := dk_42 (dk_at dksX5_work_5 13 rfl rfl)
theorem dX5_work_132 : decode cX5_work 132 = .ok (.getfield 32, 3) := dk_180 0 32 (dk_at dksX5_work_5 14 rfl rfl)
theorem dX5_work_135 : decode cX5_work 135 = .ok (.iload 5, 2) := dk_21 5 (dk_at dksX5_work_5 17 rfl rfl)
theorem dX5_work_137 : decode cX5_work 137 = .ok (.laload, 1) := dk_47 (dk_at dksX5_work_5 19 rfl rfl)
theorem dX5_work_138 : decode cX5_work 138 = .ok (.aload_n 0, 1) := dk_42 (dk_at dksX5_work_5 20 rfl rfl)
theorem dX5_work_139 : decode cX5_work 139 = .ok (.getfield 35, 3) := dk_180 0 35 (dk_at dksX5_work_5 21 rfl rfl)
theorem dX5_work_142 : decode cX5_work 142 = .ok (.iload 5, 2) := dk_21 5 (dk_at dksX5_work_6 0 rfl rfl)
theorem dX5_work_144 : decode cX5_work 144 = .ok (.laload, 1) := dk_47 (dk_at dksX5_work_6 2 rfl rfl)
theorem dX5_work_145 : decode cX5_work 145 = .ok (.ladd, 1) := dk_97 (dk_at dksX5_work_6 3 rfl rfl)
theorem dX5_work_146 : decode cX5_work 146 = .ok (.goto 18, 3) := dk_167 0 18 (dk_at dksX5_work_6 4 rfl rfl)
theorem dX5_work_149 : decode cX5_work 149 = .ok (.aload_n 0, 1) := dk_42 (dk_at dksX5_work_6 7 rfl rfl)
theorem dX5_work_150 : decode cX5_work 150 = .ok (.getfield 32, 3) := dk_180 0 32 (dk_at dksX5_work_6 8 rfl rfl)
theorem dX5_work_153 : decode cX5_work 153 = .ok (.iload 5, 2) := dk_21 5 (dk_at dksX5_work_6 11 rfl rfl)
theorem dX5_work_155 : decode cX5_work 155 = .ok (.laload, 1) := dk_47 (dk_at dksX5_work_6 13 rfl rfl)
theorem dX5_work_156 : decode cX5_work 156 = .ok (.aload_n 0, 1) := dk_42 (dk_at dksX5_work_6 14 rfl rfl)
theorem dX5_work_157 : decode cX5_work 157 = .ok (.getfield 35, 3) := dk_180 0 35 (dk_at dksX5_work_6 15 rfl rfl)
theorem dX5_work_160 : decode cX5_work 160 = .ok (.iload 5, 2) := dk_21 5 (dk_at dksX5_work_6 18 rfl rfl)
theorem dX5_work_162 : decode cX5_work 162 = .ok (.laload, 1) := dk_47 (dk_at dksX5_work_6 20 rfl rfl)
theorem dX5_work_163 : decode cX5_work 163 = .ok (.lsub, 1) := dk_101 (dk_at dksX5_work_6 21 rfl rfl)
theorem dX5_work_164 : decode cX5_work 164 = .ok (.lastore, 1) := dk_80 (dk_at dksX5_work_6 22 rfl rfl)
theorem dX5_work_165 : decode cX5_work 165 = .ok (.iinc 5 1, 3) := dk_132 5 1 (dk_at dksX5_work_7 0 rfl rfl)
theorem dX5_work_168 : decode cX5_work 168 = .ok (.goto (-53), 3) := dk_167 255 203 (dk_at dksX5_work_7 3 rfl rfl)
theorem dX5_work_171 : decode cX5_work 171 = .ok (.aload_n 0, 1) := dk_42 (dk_at dksX5_work_7 6 rfl rfl)
theorem dX5_work_172 : decode cX5_work 172 = .ok (.iload_n 1, 1) := dk_27 (dk_at dksX5_work_7 7 rfl rfl)
theorem dX5_work_173 : decode cX5_work 173 = .ok (.aload_n 0, 1) := dk_42 (dk_at dksX5_work_7 8 rfl rfl)
theorem dX5_work_174 : decode cX5_work 174 = .ok (.getfield 38, 3) := dk_180 0 38 (dk_at dksX5_work_7 9 rfl rfl)
theorem dX5_work_177 : decode cX5_work 177 = .ok (.invokevirtual 108, 3) := dk_182 0 108 (dk_at dksX5_work_7 12 rfl rfl)
theorem dX5_work_180 : decode cX5_work 180 = .ok (.ireturn, 1) := dk_172 (dk_at dksX5_work_7 15 rfl rfl)
abbrev cX5_mirror : ByteArray := prog_9_method_21_code
def yX5_mirror : MethodName := ⟨RX5, "mirror", "([J)V"⟩
def dkwX5_mirror_0 : List UInt8 := [42, 4, 42, 4, 47, 117, 80, 42, 5, 42, 5, 47, 117, 80, 42, 6, 42, 6, 47, 117, 80, 177]
abbrev dktX5_mirror_0 : List UInt8 := dkwX5_mirror_0 ++ []
theorem dksX5_mirror_0 : cX5_mirror.data.toList.drop 0 = dktX5_mirror_0 := by decide +kernel
theorem dX5_mirror_0 : decode cX5_mirror 0 = .ok (.aload_n 0, 1) := dk_42 (dk_at dksX5_mirror_0 0 rfl rfl)
theorem dX5_mirror_1 : decode cX5_mirror 1 = .ok (.iconst 1, 1) := dk_4 (dk_at dksX5_mirror_0 1 rfl rfl)
theorem dX5_mirror_2 : decode cX5_mirror 2 = .ok (.aload_n 0, 1) := dk_42 (dk_at dksX5_mirror_0 2 rfl rfl)
theorem dX5_mirror_3 : decode cX5_mirror 3 = .ok (.iconst 1, 1) := dk_4 (dk_at dksX5_mirror_0 3 rfl rfl)
theorem dX5_mirror_4 : decode cX5_mirror 4 = .ok (.laload, 1) := dk_47 (dk_at dksX5_mirror_0 4 rfl rfl)
theorem dX5_mirror_5 : decode cX5_mirror 5 = .ok (.lneg, 1) := dk_117 (dk_at dksX5_mirror_0 5 rfl rfl)
theorem dX5_mirror_6 : decode cX5_mirror 6 = .ok (.lastore, 1) := dk_80 (dk_at dksX5_mirror_0 6 rfl rfl)
theorem dX5_mirror_7 : decode cX5_mirror 7 = .ok (.aload_n 0, 1) := dk_42 (dk_at dksX5_mirror_0 7 rfl rfl)
theorem dX5_mirror_8 : decode cX5_mirror 8 = .ok (.iconst 2, 1) := dk_5 (dk_at dksX5_mirror_0 8 rfl rfl)
theorem dX5_mirror_9 : decode cX5_mirror 9 = .ok (.aload_n 0, 1) := dk_42 (dk_at dksX5_mirror_0 9 rfl rfl)
theorem dX5_mirror_10 : decode cX5_mirror 10 = .ok (.iconst 2, 1) := dk_5 (dk_at dksX5_mirror_0 10 rfl rfl)
theorem dX5_mirror_11 : decode cX5_mirror 11 = .ok (.laload, 1) := dk_47 (dk_at dksX5_mirror_0 11 rfl rfl)
theorem dX5_mirror_12 : decode cX5_mirror 12 = .ok (.lneg, 1) := dk_117 (dk_at dksX5_mirror_0 12 rfl rfl)
theorem dX5_mirror_13 : decode cX5_mirror 13 = .ok (.lastore, 1) := dk_80 (dk_at dksX5_mirror_0 13 rfl rfl)
theorem dX5_mirror_14 : decode cX5_mirror 14 = .ok (.aload_n 0, 1) := dk_42 (dk_at dksX5_mirror_0 14 rfl rfl)
theorem dX5_mirror_15 : decode cX5_mirror 15 = .ok (.iconst 3, 1) := dk_6 (dk_at dksX5_mirror_0 15 rfl rfl)
theorem dX5_mirror_16 : decode cX5_mirror 16 = .ok (.aload_n 0, 1) := dk_42 (dk_at dksX5_mirror_0 16 rfl rfl)
theorem dX5_mirror_17 : decode cX5_mirror 17 = .ok (.iconst 3, 1) := dk_6 (dk_at dksX5_mirror_0 17 rfl rfl)
theorem dX5_mirror_18 : decode cX5_mirror 18 = .ok (.laload, 1) := dk_47 (dk_at dksX5_mirror_0 18 rfl rfl)
theorem dX5_mirror_19 : decode cX5_mirror 19 = .ok (.lneg, 1) := dk_117 (dk_at dksX5_mirror_0 19 rfl rfl)
theorem dX5_mirror_20 : decode cX5_mirror 20 = .ok (.lastore, 1) := dk_80 (dk_at dksX5_mirror_0 20 rfl rfl)
theorem dX5_mirror_21 : decode cX5_mirror 21 = .ok (.return_, 1) := dk_177 (dk_at dksX5_mirror_0 21 rfl rfl)
abbrev cX5_times : ByteArray := prog_9_method_20_code
def yX5_times : MethodName := ⟨RX5, "times", "([J[J[J)V"⟩
def dkwX5_times_6 : List UInt8 := [3, 47, 105, 97, 20, 0, 77, 109, 80, 177]
abbrev dktX5_times_6 : List UInt8 := dkwX5_times_6 ++ []
def dkwX5_times_5 : List UInt8 := [44, 6, 47, 105, 43, 4, 47, 44, 5, 47, 105, 97, 43, 5, 47, 44, 4, 47, 105, 101, 43, 6, 47, 44]
abbrev dktX5_times_5 : List UInt8 := dkwX5_times_5 ++ dktX5_times_6
def dkwX5_times_4 : List UInt8 := [47, 44, 3, 47, 105, 97, 43, 6, 47, 44, 4, 47, 105, 97, 20, 0, 77, 109, 80, 42, 6, 43, 3, 47]
abbrev dktX5_times_4 : List UInt8 := dkwX5_times_4 ++ dktX5_times_5
def dkwX5_times_3 : List UInt8 := [20, 0, 77, 109, 80, 42, 5, 43, 3, 47, 44, 5, 47, 105, 43, 4, 47, 44, 6, 47, 105, 101, 43, 5]
abbrev dktX5_times_3 : List UInt8 := dkwX5_times_3 ++ dktX5_times_4
def dkwX5_times_2 : List UInt8 := [4, 47, 44, 3, 47, 105, 97, 43, 5, 47, 44, 6, 47, 105, 97, 43, 6, 47, 44, 5, 47, 105, 101]
abbrev dktX5_times_2 : List UInt8 := dkwX5_times_2 ++ dktX5_times_3
def dkwX5_times_1 : List UInt8 := [101, 43, 6, 47, 44, 6, 47, 105, 101, 20, 0, 77, 109, 80, 42, 4, 43, 3, 47, 44, 4, 47, 105, 43]
abbrev dktX5_times_1 : List UInt8 := dkwX5_times_1 ++ dktX5_times_2
def dkwX5_times_0 : List UInt8 := [42, 3, 43, 3, 47, 44, 3, 47, 105, 43, 4, 47, 44, 4, 47, 105, 101, 43, 5, 47, 44, 5, 47, 105]
abbrev dktX5_times_0 : List UInt8 := dkwX5_times_0 ++ dktX5_times_1
theorem dksX5_times_0 : cX5_times.data.toList.drop 0 = dktX5_times_0 := by decide +kernel
theorem dksX5_times_1 : cX5_times.data.toList.drop 24 = dktX5_times_1 := dk_seg dksX5_times_0 24 rfl rfl
theorem dksX5_times_2 : cX5_times.data.toList.drop 48 = dktX5_times_2 := dk_seg dksX5_times_1 24 rfl rfl
theorem dksX5_times_3 : cX5_times.data.toList.drop 71 = dktX5_times_3 := dk_seg dksX5_times_2 23 rfl rfl
theorem dksX5_times_4 : cX5_times.data.toList.drop 95 = dktX5_times_4 := dk_seg dksX5_times_3 24 rfl rfl
theorem dksX5_times_5 : cX5_times.data.toList.drop 119 = dktX5_times_5 := dk_seg dksX5_times_4 24 rfl rfl
theorem dksX5_times_6 : cX5_times.data.toList.drop 143 = dktX5_times_6 := dk_seg dksX5_times_5 24 rfl rfl
theorem dX5_times_0 : decode cX5_times 0 = .ok (.aload_n 0, 1) := dk_42 (dk_at dksX5_times_0 0 rfl rfl)
theorem dX5_times_1 : decode cX5_times 1 = .ok (.iconst 0, 1) := dk_3 (dk_at dksX5_times_0 1 rfl rfl)
theorem dX5_times_2 : decode cX5_times 2 = .ok (.aload_n 1, 1) := dk_43 (dk_at dksX5_times_0 2 rfl rfl)
theorem dX5_times_3 : decode cX5_times 3 = .ok (.iconst 0, 1) := dk_3 (dk_at dksX5_times_0 3 rfl rfl)
theorem dX5_times_4 : decode cX5_times 4 = .ok (.laload, 1) := dk_47 (dk_at dksX5_times_0 4 rfl rfl)
theorem dX5_times_5 : decode cX5_times 5 = .ok (.aload_n 2, 1) := dk_44 (dk_at dksX5_times_0 5 rfl rfl)
theorem dX5_times_6 : decode cX5_times 6 = .ok (.iconst 0, 1) := dk_3 (dk_at dksX5_times_0 6 rfl rfl)
theorem dX5_times_7 : decode cX5_times 7 = .ok (.laload, 1) := dk_47 (dk_at dksX5_times_0 7 rfl rfl)
theorem dX5_times_8 : decode cX5_times 8 = .ok (.lmul, 1) := dk_105 (dk_at dksX5_times_0 8 rfl rfl)
theorem dX5_times_9 : decode cX5_times 9 = .ok (.aload_n 1, 1) := dk_43 (dk_at dksX5_times_0 9 rfl rfl)
theorem dX5_times_10 : decode cX5_times 10 = .ok (.iconst 1, 1) := dk_4 (dk_at dksX5_times_0 10 rfl rfl)
theorem dX5_times_11 : decode cX5_times 11 = .ok (.laload, 1) := dk_47 (dk_at dksX5_times_0 11 rfl rfl)
theorem dX5_times_12 : decode cX5_times 12 = .ok (.aload_n 2, 1) := dk_44 (dk_at dksX5_times_0 12 rfl rfl)
theorem dX5_times_13 : decode cX5_times 13 = .ok (.iconst 1, 1) := dk_4 (dk_at dksX5_times_0 13 rfl rfl)
theorem dX5_times_14 : decode cX5_times 14 = .ok (.laload, 1) := dk_47 (dk_at dksX5_times_0 14 rfl rfl)
theorem dX5_times_15 : decode cX5_times 15 = .ok (.lmul, 1) := dk_105 (dk_at dksX5_times_0 15 rfl rfl)
theorem dX5_times_16 : decode cX5_times 16 = .ok (.lsub, 1) := dk_101 (dk_at dksX5_times_0 16 rfl rfl)
theorem dX5_times_17 : decode cX5_times 17 = .ok (.aload_n 1, 1) := dk_43 (dk_at dksX5_times_0 17 rfl rfl)
theorem dX5_times_18 : decode cX5_times 18 = .ok (.iconst 2, 1) := dk_5 (dk_at dksX5_times_0 18 rfl rfl)
theorem dX5_times_19 : decode cX5_times 19 = .ok (.laload, 1) := dk_47 (dk_at dksX5_times_0 19 rfl rfl)
theorem dX5_times_20 : decode cX5_times 20 = .ok (.aload_n 2, 1) := dk_44 (dk_at dksX5_times_0 20 rfl rfl)
theorem dX5_times_21 : decode cX5_times 21 = .ok (.iconst 2, 1) := dk_5 (dk_at dksX5_times_0 21 rfl rfl)
theorem dX5_times_22 : decode cX5_times 22 = .ok (.laload, 1) := dk_47 (dk_at dksX5_times_0 22 rfl rfl)
theorem dX5_times_23 : decode cX5_times 23 = .ok (.lmul, 1) := dk_105 (dk_at dksX5_times_0 23 rfl rfl)
theorem dX5_times_24 : decode cX5_times 24 = .ok (.lsub, 1) := dk_101 (dk_at dksX5_times_1 0 rfl rfl)
theorem dX5_times_25 : decode cX5_times 25 = .ok (.aload_n 1, 1) := dk_43 (dk_at dksX5_times_1 1 rfl rfl)
theorem dX5_times_26 : decode cX5_times 26 = .ok (.iconst 3, 1) := dk_6 (dk_at dksX5_times_1 2 rfl rfl)
theorem dX5_times_27 : decode cX5_times 27 = .ok (.laload, 1) := dk_47 (dk_at dksX5_times_1 3 rfl rfl)
theorem dX5_times_28 : decode cX5_times 28 = .ok (.aload_n 2, 1) := dk_44 (dk_at dksX5_times_1 4 rfl rfl)
theorem dX5_times_29 : decode cX5_times 29 = .ok (.iconst 3, 1) := dk_6 (dk_at dksX5_times_1 5 rfl rfl)
theorem dX5_times_30 : decode cX5_times 30 = .ok (.laload, 1) := dk_47 (dk_at dksX5_times_1 6 rfl rfl)
theorem dX5_times_31 : decode cX5_times 31 = .ok (.lmul, 1) := dk_105 (dk_at dksX5_times_1 7 rfl rfl)
theorem dX5_times_32 : decode cX5_times 32 = .ok (.lsub, 1) := dk_101 (dk_at dksX5_times_1 8 rfl rfl)
theorem dX5_times_33 : decode cX5_times 33 = .ok (.ldc2_w 77, 3) := dk_20 0 77 (dk_at dksX5_times_1 9 rfl rfl)
theorem dX5_times_36 : decode cX5_times 36 = .ok (.ldiv, 1) := dk_109 (dk_at dksX5_times_1 12 rfl rfl)
theorem dX5_times_37 : decode cX5_times 37 = .ok (.lastore, 1) := dk_80 (dk_at dksX5_times_1 13 rfl rfl)
theorem dX5_times_38 : decode cX5_times 38 = .ok (.aload_n 0, 1) := dk_42 (dk_at dksX5_times_1 14 rfl rfl)
theorem dX5_times_39 : decode cX5_times 39 = .ok (.iconst 1, 1) := dk_4 (dk_at dksX5_times_1 15 rfl rfl)
theorem dX5_times_40 : decode cX5_times 40 = .ok (.aload_n 1, 1) := dk_43 (dk_at dksX5_times_1 16 rfl rfl)
theorem dX5_times_41 : decode cX5_times 41 = .ok (.iconst 0, 1) := dk_3 (dk_at dksX5_times_1 17 rfl rfl)
theorem dX5_times_42 : decode cX5_times 42 = .ok (.laload, 1) := dk_47 (dk_at dksX5_times_1 18 rfl rfl)
theorem dX5_times_43 : decode cX5_times 43 = .ok (.aload_n 2, 1) := dk_44 (dk_at dksX5_times_1 19 rfl rfl)
theorem dX5_times_44 : decode cX5_times 44 = .ok (.iconst 1, 1) := dk_4 (dk_at dksX5_times_1 20 rfl rfl)
theorem dX5_times_45 : decode cX5_times 45 = .ok (.laload, 1) := dk_47 (dk_at dksX5_times_1 21 rfl rfl)
theorem dX5_times_46 : decode cX5_times 46 = .ok (.lmul, 1) := dk_105 (dk_at dksX5_times_1 22 rfl rfl)
theorem dX5_times_47 : decode cX5_times 47 = .ok (.aload_n 1, 1) := dk_43 (dk_at dksX5_times_1 23 rfl rfl)
theorem dX5_times_48 : decode cX5_times 48 = .ok (.iconst 1, 1) := dk_4 (dk_at dksX5_times_2 0 rfl rfl)
theorem dX5_times_49 : decode cX5_times 49 = .ok (.laload, 1) := dk_47 (dk_at dksX5_times_2 1 rfl rfl)
theorem dX5_times_50 : decode cX5_times 50 = .ok (.aload_n 2, 1) := dk_44 (dk_at dksX5_times_2 2 rfl rfl)
theorem dX5_times_51 : decode cX5_times 51 = .ok (.iconst 0, 1) := dk_3 (dk_at dksX5_times_2 3 rfl rfl)
theorem dX5_times_52 : decode cX5_times 52 = .ok (.laload, 1) := dk_47 (dk_at dksX5_times_2 4 rfl rfl)
theorem dX5_times_53 : decode cX5_times 53 = .ok (.lmul, 1) := dk_105 (dk_at dksX5_times_2 5 rfl rfl)
theorem dX5_times_54 : decode cX5_times 54 = .ok (.ladd, 1) := dk_97 (dk_at dksX5_times_2 6 rfl rfl)
theorem dX5_times_55 : decode cX5_times 55 = .ok (.aload_n 1, 1) := dk_43 (dk_at dksX5_times_2 7 rfl rfl)
theorem dX5_times_56 : decode cX5_times 56 = .ok (.iconst 2, 1) := dk_5 (dk_at dksX5_times_2 8 rfl rfl)
theorem dX5_times_57 : decode cX5_times 57 = .ok (.laload, 1) := dk_47 (dk_at dksX5_times_2 9 rfl rfl)
theorem dX5_times_58 : decode cX5_times 58 = .ok (.aload_n 2, 1) := dk_44 (dk_at dksX5_times_2 10 rfl rfl)
theorem dX5_times_59 : decode cX5_times 59 = .ok (.iconst 3, 1) := dk_6 (dk_at dksX5_times_2 11 rfl rfl)
theorem dX5_times_60 : decode cX5_times 60 = .ok (.laload, 1) := dk_47 (dk_at dksX5_times_2 12 rfl rfl)
theorem dX5_times_61 : decode cX5_times 61 = .ok (.lmul, 1) := dk_105 (dk_at dksX5_times_2 13 rfl rfl)
theorem dX5_times_62 : decode cX5_times 62 = .ok (.ladd, 1) := dk_97 (dk_at dksX5_times_2 14 rfl rfl)
theorem dX5_times_63 : decode cX5_times 63 = .ok (.aload_n 1, 1) := dk_43 (dk_at dksX5_times_2 15 rfl rfl)
theorem dX5_times_64 : decode cX5_times 64 = .ok (.iconst 3, 1) := dk_6 (dk_at dksX5_times_2 16 rfl rfl)
theorem dX5_times_65 : decode cX5_times 65 = .ok (.laload, 1) := dk_47 (dk_at dksX5_times_2 17 rfl rfl)
theorem dX5_times_66 : decode cX5_times 66 = .ok (.aload_n 2, 1) := dk_44 (dk_at dksX5_times_2 18 rfl rfl)
theorem dX5_times_67 : decode cX5_times 67 = .ok (.iconst 2, 1) := dk_5 (dk_at dksX5_times_2 19 rfl rfl)
theorem dX5_times_68 : decode cX5_times 68 = .ok (.laload, 1) := dk_47 (dk_at dksX5_times_2 20 rfl rfl)
theorem dX5_times_69 : decode cX5_times 69 = .ok (.lmul, 1) := dk_105 (dk_at dksX5_times_2 21 rfl rfl)
theorem dX5_times_70 : decode cX5_times 70 = .ok (.lsub, 1) := dk_101 (dk_at dksX5_times_2 22 rfl rfl)
theorem dX5_times_71 : decode cX5_times 71 = .ok (.ldc2_w 77, 3) := dk_20 0 77 (dk_at dksX5_times_3 0 rfl rfl)
theorem dX5_times_74 : decode cX5_times 74 = .ok (.ldiv, 1) := dk_109 (dk_at dksX5_times_3 3 rfl rfl)
theorem dX5_times_75 : decode cX5_times 75 = .ok (.lastore, 1) := dk_80 (dk_at dksX5_times_3 4 rfl rfl)
theorem dX5_times_76 : decode cX5_times 76 = .ok (.aload_n 0, 1) := dk_42 (dk_at dksX5_times_3 5 rfl rfl)
theorem dX5_times_77 : decode cX5_times 77 = .ok (.iconst 2, 1) := dk_5 (dk_at dksX5_times_3 6 rfl rfl)
theorem dX5_times_78 : decode cX5_times 78 = .ok (.aload_n 1, 1) := dk_43 (dk_at dksX5_times_3 7 rfl rfl)
theorem dX5_times_79 : decode cX5_times 79 = .ok (.iconst 0, 1) := dk_3 (dk_at dksX5_times_3 8 rfl rfl)
theorem dX5_times_80 : decode cX5_times 80 = .ok (.laload, 1) := dk_47 (dk_at dksX5_times_3 9 rfl rfl)
theorem dX5_times_81 : decode cX5_times 81 = .ok (.aload_n 2, 1) := dk_44 (dk_at dksX5_times_3 10 rfl rfl)
theorem dX5_times_82 : decode cX5_times 82 = .ok (.iconst 2, 1) := dk_5 (dk_at dksX5_times_3 11 rfl rfl)
theorem dX5_times_83 : decode cX5_times 83 = .ok (.laload, 1) := dk_47 (dk_at dksX5_times_3 12 rfl rfl)
theorem dX5_times_84 : decode cX5_times 84 = .ok (.lmul, 1) := dk_105 (dk_at dksX5_times_3 13 rfl rfl)
theorem dX5_times_85 : decode cX5_times 85 = .ok (.aload_n 1, 1) := dk_43 (dk_at dksX5_times_3 14 rfl rfl)
theorem dX5_times_86 : decode cX5_times 86 = .ok (.iconst 1, 1) := dk_4 (dk_at dksX5_times_3 15 rfl rfl)
theorem dX5_times_87 : decode cX5_times 87 = .ok (.laload, 1) := dk_47 (dk_at dksX5_times_3 16 rfl rfl)
theorem dX5_times_88 : decode cX5_times 88 = .ok (.aload_n 2, 1) := dk_44 (dk_at dksX5_times_3 17 rfl rfl)
theorem dX5_times_89 : decode cX5_times 89 = .ok (.iconst 3, 1) := dk_6 (dk_at dksX5_times_3 18 rfl rfl)
theorem dX5_times_90 : decode cX5_times 90 = .ok (.laload, 1) := dk_47 (dk_at dksX5_times_3 19 rfl rfl)
theorem dX5_times_91 : decode cX5_times 91 = .ok (.lmul, 1) := dk_105 (dk_at dksX5_times_3 20 rfl rfl)
theorem dX5_times_92 : decode cX5_times 92 = .ok (.lsub, 1) := dk_101 (dk_at dksX5_times_3 21 rfl rfl)
theorem dX5_times_93 : decode cX5_times 93 = .ok (.aload_n 1, 1) := dk_43 (dk_at dksX5_times_3 22 rfl rfl)
theorem dX5_times_94 : decode cX5_times 94 = .ok (.iconst 2, 1) := dk_5 (dk_at dksX5_times_3 23 rfl rfl)
theorem dX5_times_95 : decode cX5_times 95 = .ok (.laload, 1) := dk_47 (dk_at dksX5_times_4 0 rfl rfl)
theorem dX5_times_96 : decode cX5_times 96 = .ok (.aload_n 2, 1) := dk_44 (dk_at dksX5_times_4 1 rfl rfl)
theorem dX5_times_97 : decode cX5_times 97 = .ok (.iconst 0, 1) := dk_3 (dk_at dksX5_times_4 2 rfl rfl)
theorem dX5_times_98 : decode cX5_times 98 = .ok (.laload, 1) := dk_47 (dk_at dksX5_times_4 3 rfl rfl)
theorem dX5_times_99 : decode cX5_times 99 = .ok (.lmul, 1) := dk_105 (dk_at dksX5_times_4 4 rfl rfl)
theorem dX5_times_100 : decode cX5_times 100 = .ok (.ladd, 1) := dk_97 (dk_at dksX5_times_4 5 rfl rfl)
theorem dX5_times_101 : decode cX5_times 101 = .ok (.aload_n 1, 1) := dk_43 (dk_at dksX5_times_4 6 rfl rfl)
theorem dX5_times_102 : decode cX5_times 102 = .ok (.iconst 3, 1) := dk_6 (dk_at dksX5_times_4 7 rfl rfl)
theorem dX5_times_103 : decode cX5_times 103 = .ok (.laload, 1) := dk_47 (dk_at dksX5_times_4 8 rfl rfl)
theorem dX5_times_104 : decode cX5_times 104 = .ok (.aload_n 2, 1) := dk_44 (dk_at dksX5_times_4 9 rfl rfl)
theorem dX5_times_105 : decode cX5_times 105 = .ok (.iconst 1, 1) := dk_4 (dk_at dksX5_times_4 10 rfl rfl)
theorem dX5_times_106 : decode cX5_times 106 = .ok (.laload, 1) := dk_47 (dk_at dksX5_times_4 11 rfl rfl)
theorem dX5_times_107 : decode cX5_times 107 = .ok (.lmul, 1) := dk_105 (dk_at dksX5_times_4 12 rfl rfl)
theorem dX5_times_108 : decode cX5_times 108 = .ok (.ladd, 1) := dk_97 (dk_at dksX5_times_4 13 rfl rfl)
theorem dX5_times_109 : decode cX5_times 109 = .ok (.ldc2_w 77, 3) := dk_20 0 77 (dk_at dksX5_times_4 14 rfl rfl)
theorem dX5_times_112 : decode cX5_times 112 = .ok (.ldiv, 1) := dk_109 (dk_at dksX5_times_4 17 rfl rfl)
theorem dX5_times_113 : decode cX5_times 113 = .ok (.lastore, 1) := dk_80 (dk_at dksX5_times_4 18 rfl rfl)
theorem dX5_times_114 : decode cX5_times 114 = .ok (.aload_n 0, 1) := dk_42 (dk_at dksX5_times_4 19 rfl rfl)
theorem dX5_times_115 : decode cX5_times 115 = .ok (.iconst 3, 1) := dk_6 (dk_at dksX5_times_4 20 rfl rfl)
theorem dX5_times_116 : decode cX5_times 116 = .ok (.aload_n 1, 1) := dk_43 (dk_at dksX5_times_4 21 rfl rfl)
theorem dX5_times_117 : decode cX5_times 117 = .ok (.iconst 0, 1) := dk_3 (dk_at dksX5_times_4 22 rfl rfl)
theorem dX5_times_118 : decode cX5_times 118 = .ok (.laload, 1) := dk_47 (dk_at dksX5_times_4 23 rfl rfl)
theorem dX5_times_119 : decode cX5_times 119 = .ok (.aload_n 2, 1) := dk_44 (dk_at dksX5_times_5 0 rfl rfl)
theorem dX5_times_120 : decode cX5_times 120 = .ok (.iconst 3, 1) := dk_6 (dk_at dksX5_times_5 1 rfl rfl)
theorem dX5_times_121 : decode cX5_times 121 = .ok (.laload, 1) := dk_47 (dk_at dksX5_times_5 2 rfl rfl)
theorem dX5_times_122 : decode cX5_times 122 = .ok (.lmul, 1) := dk_105 (dk_at dksX5_times_5 3 rfl rfl)
theorem dX5_times_123 : decode cX5_times 123 = .ok (.aload_n 1, 1) := dk_43 (dk_at dksX5_times_5 4 rfl rfl)
theorem dX5_times_124 : decode cX5_times 124 = .ok (.iconst 1, 1) := dk_4 (dk_at dksX5_times_5 5 rfl rfl)
theorem dX5_times_125 : decode cX5_times 125 = .ok (.laload, 1) := dk_47 (dk_at dksX5_times_5 6 rfl rfl)
theorem dX5_times_126 : decode cX5_times 126 = .ok (.aload_n 2, 1) := dk_44 (dk_at dksX5_times_5 7 rfl rfl)
theorem dX5_times_127 : decode cX5_times 127 = .ok (.iconst 2, 1) := dk_5 (dk_at dksX5_times_5 8 rfl rfl)
theorem dX5_times_128 : decode cX5_times 128 = .ok (.laload, 1) := dk_47 (dk_at dksX5_times_5 9 rfl rfl)
theorem dX5_times_129 : decode cX5_times 129 = .ok (.lmul, 1) := dk_105 (dk_at dksX5_times_5 10 rfl rfl)
theorem dX5_times_130 : decode cX5_times 130 = .ok (.ladd, 1) := dk_97 (dk_at dksX5_times_5 11 rfl rfl)
theorem dX5_times_131 : decode cX5_times 131 = .ok (.aload_n 1, 1) := dk_43 (dk_at dksX5_times_5 12 rfl rfl)
theorem dX5_times_132 : decode cX5_times 132 = .ok (.iconst 2, 1) := dk_5 (dk_at dksX5_times_5 13 rfl rfl)
theorem dX5_times_133 : decode cX5_times 133 = .ok (.laload, 1) := dk_47 (dk_at dksX5_times_5 14 rfl rfl)
theorem dX5_times_134 : decode cX5_times 134 = .ok (.aload_n 2, 1) := dk_44 (dk_at dksX5_times_5 15 rfl rfl)
theorem dX5_times_135 : decode cX5_times 135 = .ok (.iconst 1, 1) := dk_4 (dk_at dksX5_times_5 16 rfl rfl)
theorem dX5_times_136 : decode cX5_times 136 = .ok (.laload, 1) := dk_47 (dk_at dksX5_times_5 17 rfl rfl)
theorem dX5_times_137 : decode cX5_times 137 = .ok (.lmul, 1) := dk_105 (dk_at dksX5_times_5 18 rfl rfl)
theorem dX5_times_138 : decode cX5_times 138 = .ok (.lsub, 1) := dk_101 (dk_at dksX5_times_5 19 rfl rfl)
theorem dX5_times_139 : decode cX5_times 139 = .ok (.aload_n 1, 1) := dk_43 (dk_at dksX5_times_5 20 rfl rfl)
theorem dX5_times_140 : decode cX5_times 140 = .ok (.iconst 3, 1) := dk_6 (dk_at dksX5_times_5 21 rfl rfl)
theorem dX5_times_141 : decode cX5_times 141 = .ok (.laload, 1) := dk_47 (dk_at dksX5_times_5 22 rfl rfl)
theorem dX5_times_142 : decode cX5_times 142 = .ok (.aload_n 2, 1) := dk_44 (dk_at dksX5_times_5 23 rfl rfl)
theorem dX5_times_143 : decode cX5_times 143 = .ok (.iconst 0, 1) := dk_3 (dk_at dksX5_times_6 0 rfl rfl)
theorem dX5_times_144 : decode cX5_times 144 = .ok (.laload, 1) := dk_47 (dk_at dksX5_times_6 1 rfl rfl)
theorem dX5_times_145 : decode cX5_times 145 = .ok (.lmul, 1) := dk_105 (dk_at dksX5_times_6 2 rfl rfl)
theorem dX5_times_146 : decode cX5_times 146 = .ok (.ladd, 1) := dk_97 (dk_at dksX5_times_6 3 rfl rfl)
theorem dX5_times_147 : decode cX5_times 147 = .ok (.ldc2_w 77, 3) := dk_20 0 77 (dk_at dksX5_times_6 4 rfl rfl)
theorem dX5_times_150 : decode cX5_times 150 = .ok (.ldiv, 1) := dk_109 (dk_at dksX5_times_6 7 rfl rfl)
theorem dX5_times_151 : decode cX5_times 151 = .ok (.lastore, 1) := dk_80 (dk_at dksX5_times_6 8 rfl rfl)
theorem dX5_times_152 : decode cX5_times 152 = .ok (.return_, 1) := dk_177 (dk_at dksX5_times_6 9 rfl rfl)
abbrev cX5_unit : ByteArray := prog_9_method_32_code
def yX5_unit : MethodName := ⟨RX5, "unit", "(IIII)I"⟩
def dkwX5_unit_4 : List UInt8 := [180, 0, 32, 184, 0, 143, 42, 27, 42, 180, 0, 38, 182, 0, 108, 172]
abbrev dktX5_unit_4 : List UInt8 := dkwX5_unit_4 ++ []
def dkwX5_unit_3 : List UInt8 := [180, 0, 32, 42, 180, 0, 35, 184, 0, 143, 167, 0, 18, 42, 180, 0, 38, 42, 180, 0, 35, 42]
abbrev dktX5_unit_3 : List UInt8 := dkwX5_unit_3 ++ dktX5_unit_4
def dkwX5_unit_2 : List UInt8 := [182, 0, 122, 42, 42, 180, 0, 35, 29, 182, 0, 149, 21, 4, 154, 0, 21, 42, 180, 0, 38, 42]
abbrev dktX5_unit_2 : List UInt8 := dkwX5_unit_2 ++ dktX5_unit_3
def dkwX5_unit_1 : List UInt8 := [153, 0, 14, 21, 4, 133, 9, 10, 184, 0, 65, 154, 0, 5, 2, 172, 42, 42, 180, 0, 32, 28]
abbrev dktX5_unit_1 : List UInt8 := dkwX5_unit_1 ++ dktX5_unit_2
def dkwX5_unit_0 : List UInt8 := [27, 184, 0, 91, 153, 0, 33, 28, 184, 0, 91, 153, 0, 26, 29, 133, 9, 20, 0, 147, 184, 0, 65]
abbrev dktX5_unit_0 : List UInt8 := dkwX5_unit_0 ++ dktX5_unit_1
theorem dksX5_unit_0 : cX5_unit.data.toList.drop 0 = dktX5_unit_0 := by decide +kernel
theorem dksX5_unit_1 : cX5_unit.data.toList.drop 23 = dktX5_unit_1 := dk_seg dksX5_unit_0 23 rfl rfl
theorem dksX5_unit_2 : cX5_unit.data.toList.drop 45 = dktX5_unit_2 := dk_seg dksX5_unit_1 22 rfl rfl
theorem dksX5_unit_3 : cX5_unit.data.toList.drop 67 = dktX5_unit_3 := dk_seg dksX5_unit_2 22 rfl rfl
theorem dksX5_unit_4 : cX5_unit.data.toList.drop 89 = dktX5_unit_4 := dk_seg dksX5_unit_3 22 rfl rfl
theorem dX5_unit_0 : decode cX5_unit 0 = .ok (.iload_n 1, 1) := dk_27 (dk_at dksX5_unit_0 0 rfl rfl)
theorem dX5_unit_1 : decode cX5_unit 1 = .ok (.invokestatic 91, 3) := dk_184 0 91 (dk_at dksX5_unit_0 1 rfl rfl)
theorem dX5_unit_4 : decode cX5_unit 4 = .ok (.ifCond .eq 33, 3) := dk_153 0 33 (dk_at dksX5_unit_0 4 rfl rfl)
theorem dX5_unit_7 : decode cX5_unit 7 = .ok (.iload_n 2, 1) := dk_28 (dk_at dksX5_unit_0 7 rfl rfl)
theorem dX5_unit_8 : decode cX5_unit 8 = .ok (.invokestatic 91, 3) := dk_184 0 91 (dk_at dksX5_unit_0 8 rfl rfl)
theorem dX5_unit_11 : decode cX5_unit 11 = .ok (.ifCond .eq 26, 3) := dk_153 0 26 (dk_at dksX5_unit_0 11 rfl rfl)
theorem dX5_unit_14 : decode cX5_unit 14 = .ok (.iload_n 3, 1) := dk_29 (dk_at dksX5_unit_0 14 rfl rfl)
theorem dX5_unit_15 : decode cX5_unit 15 = .ok (.i2l, 1) := dk_133 (dk_at dksX5_unit_0 15 rfl rfl)
theorem dX5_unit_16 : decode cX5_unit 16 = .ok (.lconst 0, 1) := dk_9 (dk_at dksX5_unit_0 16 rfl rfl)
theorem dX5_unit_17 : decode cX5_unit 17 = .ok (.ldc2_w 147, 3) := dk_20 0 147 (dk_at dksX5_unit_0 17 rfl rfl)
theorem dX5_unit_20 : decode cX5_unit 20 = .ok (.invokestatic 65, 3) := dk_184 0 65 (dk_at dksX5_unit_0 20 rfl rfl)
theorem dX5_unit_23 : decode cX5_unit 23 = .ok (.ifCond .eq 14, 3) := dk_153 0 14 (dk_at dksX5_unit_1 0 rfl rfl)
theorem dX5_unit_26 : decode cX5_unit 26 = .ok (.iload 4, 2) := dk_21 4 (dk_at dksX5_unit_1 3 rfl rfl)
theorem dX5_unit_28 : decode cX5_unit 28 = .ok (.i2l, 1) := dk_133 (dk_at dksX5_unit_1 5 rfl rfl)
theorem dX5_unit_29 : decode cX5_unit 29 = .ok (.lconst 0, 1) := dk_9 (dk_at dksX5_unit_1 6 rfl rfl)
theorem dX5_unit_30 : decode cX5_unit 30 = .ok (.lconst 1, 1) := dk_10 (dk_at dksX5_unit_1 7 rfl rfl)
theorem dX5_unit_31 : decode cX5_unit 31 = .ok (.invokestatic 65, 3) := dk_184 0 65 (dk_at dksX5_unit_1 8 rfl rfl)
theorem dX5_unit_34 : decode cX5_unit 34 = .ok (.ifCond .ne 5, 3) := dk_154 0 5 (dk_at dksX5_unit_1 11 rfl rfl)
theorem dX5_unit_37 : decode cX5_unit 37 = .ok (.iconst (-1), 1) := dk_2 (dk_at dksX5_unit_1 14 rfl rfl)
theorem dX5_unit_38 : decode cX5_unit 38 = .ok (.ireturn, 1) := dk_172 (dk_at dksX5_unit_1 15 rfl rfl)
theorem dX5_unit_39 : decode cX5_unit 39 = .ok (.aload_n 0, 1) := dk_42 (dk_at dksX5_unit_1 16 rfl rfl)
theorem dX5_unit_40 : decode cX5_unit 40 = .ok (.aload_n 0, 1) := dk_42 (dk_at dksX5_unit_1 17 rfl rfl)
theorem dX5_unit_41 : decode cX5_unit 41 = .ok (.getfield 32, 3) := dk_180 0 32 (dk_at dksX5_unit_1 18 rfl rfl)
theorem dX5_unit_44 : decode cX5_unit 44 = .ok (.iload_n 2, 1) := dk_28 (dk_at dksX5_unit_1 21 rfl rfl)
theorem dX5_unit_45 : decode cX5_unit 45 = .ok (.invokevirtual 122, 3) := dk_182 0 122 (dk_at dksX5_unit_2 0 rfl rfl)
theorem dX5_unit_48 : decode cX5_unit 48 = .ok (.aload_n 0, 1) := dk_42 (dk_at dksX5_unit_2 3 rfl rfl)
theorem dX5_unit_49 : decode cX5_unit 49 = .ok (.aload_n 0, 1) := dk_42 (dk_at dksX5_unit_2 4 rfl rfl)
theorem dX5_unit_50 : decode cX5_unit 50 = .ok (.getfield 35, 3) := dk_180 0 35 (dk_at dksX5_unit_2 5 rfl rfl)
theorem dX5_unit_53 : decode cX5_unit 53 = .ok (.iload_n 3, 1) := dk_29 (dk_at dksX5_unit_2 8 rfl rfl)
theorem dX5_unit_54 : decode cX5_unit 54 = .ok (.invokevirtual 149, 3) := dk_182 0 149 (dk_at dksX5_unit_2 9 rfl rfl)
theorem dX5_unit_57 : decode cX5_unit 57 = .ok (.iload 4, 2) := dk_21 4 (dk_at dksX5_unit_2 12 rfl rfl)
theorem dX5_unit_59 : decode cX5_unit 59 = .ok (.ifCond .ne 21, 3) := dk_154 0 21 (dk_at dksX5_unit_2 14 rfl rfl)
theorem dX5_unit_62 : decode cX5_unit 62 = .ok (.aload_n 0, 1) := dk_42 (dk_at dksX5_unit_2 17 rfl rfl)
theorem dX5_unit_63 : decode cX5_unit 63 = .ok (.getfield 38, 3) := dk_180 0 38 (dk_at dksX5_unit_2 18 rfl rfl)
theorem dX5_unit_66 : decode cX5_unit 66 = .ok (.aload_n 0, 1) := dk_42 (dk_at dksX5_unit_2 21 rfl rfl)
theorem dX5_unit_67 : decode cX5_unit 67 = .ok (.getfield 32, 3) := dk_180 0 32 (dk_at dksX5_unit_3 0 rfl rfl)
theorem dX5_unit_70 : decode cX5_unit 70 = .ok (.aload_n 0, 1) := dk_42 (dk_at dksX5_unit_3 3 rfl rfl)
theorem dX5_unit_71 : decode cX5_unit 71 = .ok (.getfield 35, 3) := dk_180 0 35 (dk_at dksX5_unit_3 4 rfl rfl)
theorem dX5_unit_74 : decode cX5_unit 74 = .ok (.invokestatic 143, 3) := dk_184 0 143 (dk_at dksX5_unit_3 7 rfl rfl)
theorem dX5_unit_77 : decode cX5_unit 77 = .ok (.goto 18, 3) := dk_167 0 18 (dk_at dksX5_unit_3 10 rfl rfl)
theorem dX5_unit_80 : decode cX5_unit 80 = .ok (.aload_n 0, 1) := dk_42 (dk_at dksX5_unit_3 13 rfl rfl)
theorem dX5_unit_81 : decode cX5_unit 81 = .ok (.getfield 38, 3) := dk_180 0 38 (dk_at dksX5_unit_3 14 rfl rfl)
theorem dX5_unit_84 : decode cX5_unit 84 = .ok (.aload_n 0, 1) := dk_42 (dk_at dksX5_unit_3 17 rfl rfl)
theorem dX5_unit_85 : decode cX5_unit 85 = .ok (.getfield 35, 3) := dk_180 0 35 (dk_at dksX5_unit_3 18 rfl rfl)
theorem dX5_unit_88 : decode cX5_unit 88 = .ok (.aload_n 0, 1) := dk_42 (dk_at dksX5_unit_3 21 rfl rfl)
theorem dX5_unit_89 : decode cX5_unit 89 = .ok (.getfield 32, 3) := dk_180 0 32 (dk_at dksX5_unit_4 0 rfl rfl)
theorem dX5_unit_92 : decode cX5_unit 92 = .ok (.invokestatic 143, 3) := dk_184 0 143 (dk_at dksX5_unit_4 3 rfl rfl)
theorem dX5_unit_95 : decode cX5_unit 95 = .ok (.aload_n 0, 1) := dk_42 (dk_at dksX5_unit_4 6 rfl rfl)
theorem dX5_unit_96 : decode cX5_unit 96 = .ok (.iload_n 1, 1) := dk_27 (dk_at dksX5_unit_4 7 rfl rfl)
theorem dX5_unit_97 : decode cX5_unit 97 = .ok (.aload_n 0, 1) := dk_42 (dk_at dksX5_unit_4 8 rfl rfl)
theorem dX5_unit_98 : decode cX5_unit 98 = .ok (.getfield 38, 3) := dk_180 0 38 (dk_at dksX5_unit_4 9 rfl rfl)
theorem dX5_unit_101 : decode cX5_unit 101 = .ok (.invokevirtual 108, 3) := dk_182 0 108 (dk_at dksX5_unit_4 12 rfl rfl)
theorem dX5_unit_104 : decode cX5_unit 104 = .ok (.ireturn, 1) := dk_172 (dk_at dksX5_unit_4 15 rfl rfl)
abbrev cX5_loadUnit : ByteArray := prog_9_method_15_code
def yX5_loadUnit : MethodName := ⟨RX5, "loadUnit", "([JI)V"⟩
def dkwX5_loadUnit_1 : List UInt8 := [167, 255, 234, 177]
abbrev dktX5_loadUnit_1 : List UInt8 := dkwX5_loadUnit_1 ++ []
def dkwX5_loadUnit_0 : List UInt8 := [3, 62, 29, 7, 162, 0, 23, 43, 29, 42, 180, 0, 23, 7, 28, 104, 29, 96, 46, 133, 80, 132, 3, 1]
abbrev dktX5_loadUnit_0 : List UInt8 := dkwX5_loadUnit_0 ++ dktX5_loadUnit_1
theorem dksX5_loadUnit_0 : cX5_loadUnit.data.toList.drop 0 = dktX5_loadUnit_0 := by decide +kernel
theorem dksX5_loadUnit_1 : cX5_loadUnit.data.toList.drop 24 = dktX5_loadUnit_1 := dk_seg dksX5_loadUnit_0 24 rfl rfl
theorem dX5_loadUnit_0 : decode cX5_loadUnit 0 = .ok (.iconst 0, 1) := dk_3 (dk_at dksX5_loadUnit_0 0 rfl rfl)
theorem dX5_loadUnit_1 : decode cX5_loadUnit 1 = .ok (.istore_n 3, 1) := dk_62 (dk_at dksX5_loadUnit_0 1 rfl rfl)
theorem dX5_loadUnit_2 : decode cX5_loadUnit 2 = .ok (.iload_n 3, 1) := dk_29 (dk_at dksX5_loadUnit_0 2 rfl rfl)
theorem dX5_loadUnit_3 : decode cX5_loadUnit 3 = .ok (.iconst 4, 1) := dk_7 (dk_at dksX5_loadUnit_0 3 rfl rfl)
theorem dX5_loadUnit_4 : decode cX5_loadUnit 4 = .ok (.if_icmp .ge 23, 3) := dk_162 0 23 (dk_at dksX5_loadUnit_0 4 rfl rfl)
theorem dX5_loadUnit_7 : decode cX5_loadUnit 7 = .ok (.aload_n 1, 1) := dk_43 (dk_at dksX5_loadUnit_0 7 rfl rfl)
theorem dX5_loadUnit_8 : decode cX5_loadUnit 8 = .ok (.iload_n 3, 1) := dk_29 (dk_at dksX5_loadUnit_0 8 rfl rfl)
theorem dX5_loadUnit_9 : decode cX5_loadUnit 9 = .ok (.aload_n 0, 1) := dk_42 (dk_at dksX5_loadUnit_0 9 rfl rfl)
theorem dX5_loadUnit_10 : decode cX5_loadUnit 10 = .ok (.getfield 23, 3) := dk_180 0 23 (dk_at dksX5_loadUnit_0 10 rfl rfl)
theorem dX5_loadUnit_13 : decode cX5_loadUnit 13 = .ok (.iconst 4, 1) := dk_7 (dk_at dksX5_loadUnit_0 13 rfl rfl)
theorem dX5_loadUnit_14 : decode cX5_loadUnit 14 = .ok (.iload_n 2, 1) := dk_28 (dk_at dksX5_loadUnit_0 14 rfl rfl)
theorem dX5_loadUnit_15 : decode cX5_loadUnit 15 = .ok (.imul, 1) := dk_104 (dk_at dksX5_loadUnit_0 15 rfl rfl)
theorem dX5_loadUnit_16 : decode cX5_loadUnit 16 = .ok (.iload_n 3, 1) := dk_29 (dk_at dksX5_loadUnit_0 16 rfl rfl)
theorem dX5_loadUnit_17 : decode cX5_loadUnit 17 = .ok (.iadd, 1) := dk_96 (dk_at dksX5_loadUnit_0 17 rfl rfl)
theorem dX5_loadUnit_18 : decode cX5_loadUnit 18 = .ok (.iaload, 1) := dk_46 (dk_at dksX5_loadUnit_0 18 rfl rfl)
theorem dX5_loadUnit_19 : decode cX5_loadUnit 19 = .ok (.i2l, 1) := dk_133 (dk_at dksX5_loadUnit_0 19 rfl rfl)
theorem dX5_loadUnit_20 : decode cX5_loadUnit 20 = .ok (.lastore, 1) := dk_80 (dk_at dksX5_loadUnit_0 20 rfl rfl)
theorem dX5_loadUnit_21 : decode cX5_loadUnit 21 = .ok (.iinc 3 1, 3) := dk_132 3 1 (dk_at dksX5_loadUnit_0 21 rfl rfl)
theorem dX5_loadUnit_24 : decode cX5_loadUnit 24 = .ok (.goto (-22), 3) := dk_167 255 234 (dk_at dksX5_loadUnit_1 0 rfl rfl)
theorem dX5_loadUnit_27 : decode cX5_loadUnit 27 = .ok (.return_, 1) := dk_177 (dk_at dksX5_loadUnit_1 3 rfl rfl)
abbrev cX5_divide : ByteArray := prog_9_method_35_code
def yX5_divide : MethodName := ⟨RX5, "divide", "(IIIII)I"⟩
def dkwX5_divide_5 : List UInt8 := [42, 180, 0, 47, 182, 0, 102, 42, 28, 42, 180, 0, 41, 182, 0, 102, 3, 172]
abbrev dktX5_divide_5 : List UInt8 := dkwX5_divide_5 ++ []
def dkwX5_divide_4 : List UInt8 := [180, 0, 47, 184, 0, 98, 153, 0, 13, 42, 180, 0, 41, 184, 0, 98, 154, 0, 6, 16, 253, 172, 42, 27]
abbrev dktX5_divide_4 : List UInt8 := dkwX5_divide_4 ++ dktX5_divide_5
def dkwX5_divide_3 : List UInt8 := [184, 0, 112, 153, 0, 6, 16, 254, 172, 42, 42, 180, 0, 32, 42, 180, 0, 35, 21, 5, 182, 0, 159, 42]
abbrev dktX5_divide_3 : List UInt8 := dkwX5_divide_3 ++ dktX5_divide_4
def dkwX5_divide_2 : List UInt8 := [42, 42, 180, 0, 32, 29, 182, 0, 122, 42, 42, 180, 0, 35, 21, 4, 182, 0, 122, 42, 180, 0, 35]
abbrev dktX5_divide_2 : List UInt8 := dkwX5_divide_2 ++ dktX5_divide_3
def dkwX5_divide_1 : List UInt8 := [184, 0, 91, 153, 0, 19, 21, 5, 133, 9, 10, 184, 0, 65, 153, 0, 8, 27, 28, 160, 0, 5, 2, 172]
abbrev dktX5_divide_1 : List UInt8 := dkwX5_divide_1 ++ dktX5_divide_2
def dkwX5_divide_0 : List UInt8 := [27, 184, 0, 91, 153, 0, 41, 28, 184, 0, 91, 153, 0, 34, 29, 184, 0, 91, 153, 0, 27, 21, 4]
abbrev dktX5_divide_0 : List UInt8 := dkwX5_divide_0 ++ dktX5_divide_1
theorem dksX5_divide_0 : cX5_divide.data.toList.drop 0 = dktX5_divide_0 := by decide +kernel
theorem dksX5_divide_1 : cX5_divide.data.toList.drop 23 = dktX5_divide_1 := dk_seg dksX5_divide_0 23 rfl rfl
theorem dksX5_divide_2 : cX5_divide.data.toList.drop 47 = dktX5_divide_2 := dk_seg dksX5_divide_1 24 rfl rfl
theorem dksX5_divide_3 : cX5_divide.data.toList.drop 70 = dktX5_divide_3 := dk_seg dksX5_divide_2 23 rfl rfl
theorem dksX5_divide_4 : cX5_divide.data.toList.drop 94 = dktX5_divide_4 := dk_seg dksX5_divide_3 24 rfl rfl
theorem dksX5_divide_5 : cX5_divide.data.toList.drop 118 = dktX5_divide_5 := dk_seg dksX5_divide_4 24 rfl rfl
theorem dX5_divide_0 : decode cX5_divide 0 = .ok (.iload_n 1, 1) := dk_27 (dk_at dksX5_divide_0 0 rfl rfl)
theorem dX5_divide_1 : decode cX5_divide 1 = .ok (.invokestatic 91, 3) := dk_184 0 91 (dk_at dksX5_divide_0 1 rfl rfl)
theorem dX5_divide_4 : decode cX5_divide 4 = .ok (.ifCond .eq 41, 3) := dk_153 0 41 (dk_at dksX5_divide_0 4 rfl rfl)
theorem dX5_divide_7 : decode cX5_divide 7 = .ok (.iload_n 2, 1) := dk_28 (dk_at dksX5_divide_0 7 rfl rfl)
theorem dX5_divide_8 : decode cX5_divide 8 = .ok (.invokestatic 91, 3) := dk_184 0 91 (dk_at dksX5_divide_0 8 rfl rfl)
theorem dX5_divide_11 : decode cX5_divide 11 = .ok (.ifCond .eq 34, 3) := dk_153 0 34 (dk_at dksX5_divide_0 11 rfl rfl)
theorem dX5_divide_14 : decode cX5_divide 14 = .ok (.iload_n 3, 1) := dk_29 (dk_at dksX5_divide_0 14 rfl rfl)
theorem dX5_divide_15 : decode cX5_divide 15 = .ok (.invokestatic 91, 3) := dk_184 0 91 (dk_at dksX5_divide_0 15 rfl rfl)
theorem dX5_divide_18 : decode cX5_divide 18 = .ok (.ifCond .eq 27, 3) := dk_153 0 27 (dk_at dksX5_divide_0 18 rfl rfl)
theorem dX5_divide_21 : decode cX5_divide 21 = .ok (.iload 4, 2) := dk_21 4 (dk_at dksX5_divide_0 21 rfl rfl)
theorem dX5_divide_23 : decode cX5_divide 23 = .ok (.invokestatic 91, 3) := dk_184 0 91 (dk_at dksX5_divide_1 0 rfl rfl)
theorem dX5_divide_26 : decode cX5_divide 26 = .ok (.ifCond .eq 19, 3) := dk_153 0 19 (dk_at dksX5_divide_1 3 rfl rfl)
theorem dX5_divide_29 : decode cX5_divide 29 = .ok (.iload 5, 2) := dk_21 5 (dk_at dksX5_divide_1 6 rfl rfl)
theorem dX5_divide_31 : decode cX5_divide 31 = .ok (.i2l, 1) := dk_133 (dk_at dksX5_divide_1 8 rfl rfl)
theorem dX5_divide_32 : decode cX5_divide 32 = .ok (.lconst 0, 1) := dk_9 (dk_at dksX5_divide_1 9 rfl rfl)
theorem dX5_divide_33 : decode cX5_divide 33 = .ok (.lconst 1, 1) := dk_10 (dk_at dksX5_divide_1 10 rfl rfl)
theorem dX5_divide_34 : decode cX5_divide 34 = .ok (.invokestatic 65, 3) := dk_184 0 65 (dk_at dksX5_divide_1 11 rfl rfl)
theorem dX5_divide_37 : decode cX5_divide 37 = .ok (.ifCond .eq 8, 3) := dk_153 0 8 (dk_at dksX5_divide_1 14 rfl rfl)
theorem dX5_divide_40 : decode cX5_divide 40 = .ok (.iload_n 1, 1) := dk_27 (dk_at dksX5_divide_1 17 rfl rfl)
theorem dX5_divide_41 : decode cX5_divide 41 = .ok (.iload_n 2, 1) := dk_28 (dk_at dksX5_divide_1 18 rfl rfl)
theorem dX5_divide_42 : decode cX5_divide 42 = .ok (.if_icmp .ne 5, 3) := dk_160 0 5 (dk_at dksX5_divide_1 19 rfl rfl)
theorem dX5_divide_45 : decode cX5_divide 45 = .ok (.iconst (-1), 1) := dk_2 (dk_at dksX5_divide_1 22 rfl rfl)
theorem dX5_divide_46 : decode cX5_divide 46 = .ok (.ireturn, 1) := dk_172 (dk_at dksX5_divide_1 23 rfl rfl)
theorem dX5_divide_47 : decode cX5_divide 47 = .ok (.aload_n 0, 1) := dk_42 (dk_at dksX5_divide_2 0 rfl rfl)
theorem dX5_divide_48 : decode cX5_divide 48 = .ok (.aload_n 0, 1) := dk_42 (dk_at dksX5_divide_2 1 rfl rfl)
theorem dX5_divide_49 : decode cX5_divide 49 = .ok (.getfield 32, 3) := dk_180 0 32 (dk_at dksX5_divide_2 2 rfl rfl)
theorem dX5_divide_52 : decode cX5_divide 52 = .ok (.iload_n 3, 1) := dk_29 (dk_at dksX5_divide_2 5 rfl rfl)
theorem dX5_divide_53 : decode cX5_divide 53 = .ok (.invokevirtual 122, 3) := dk_182 0 122 (dk_at dksX5_divide_2 6 rfl rfl)
theorem dX5_divide_56 : decode cX5_divide 56 = .ok (.aload_n 0, 1) := dk_42 (dk_at dksX5_divide_2 9 rfl rfl)
theorem dX5_divide_57 : decode cX5_divide 57 = .ok (.aload_n 0, 1) := dk_42 (dk_at dksX5_divide_2 10 rfl rfl)
theorem dX5_divide_58 : decode cX5_divide 58 = .ok (.getfield 35, 3) := dk_180 0 35 (dk_at dksX5_divide_2 11 rfl rfl)
theorem dX5_divide_61 : decode cX5_divide 61 = .ok (.iload 4, 2) := dk_21 4 (dk_at dksX5_divide_2 14 rfl rfl)
theorem dX5_divide_63 : decode cX5_divide 63 = .ok (.invokevirtual 122, 3) := dk_182 0 122 (dk_at dksX5_divide_2 16 rfl rfl)
theorem dX5_divide_66 : decode cX5_divide 66 = .ok (.aload_n 0, 1) := dk_42 (dk_at dksX5_divide_2 19 rfl rfl)
theorem dX5_divide_67 : decode cX5_divide 67 = .ok (.getfield 35, 3) := dk_180 0 35 (dk_at dksX5_divide_2 20 rfl rfl)
theorem dX5_divide_70 : decode cX5_divide 70 = .ok (.invokestatic 112, 3) := dk_184 0 112 (dk_at dksX5_divide_3 0 rfl rfl)
theorem dX5_divide_73 : decode cX5_divide 73 = .ok (.ifCond .eq 6, 3) := dk_153 0 6 (dk_at dksX5_divide_3 3 rfl rfl)
theorem dX5_divide_76 : decode cX5_divide 76 = .ok (.bipush (-2), 2) := dk_16 254 (dk_at dksX5_divide_3 6 rfl rfl)
theorem dX5_divide_78 : decode cX5_divide 78 = .ok (.ireturn, 1) := dk_172 (dk_at dksX5_divide_3 8 rfl rfl)
theorem dX5_divide_79 : decode cX5_divide 79 = .ok (.aload_n 0, 1) := dk_42 (dk_at dksX5_divide_3 9 rfl rfl)
theorem dX5_divide_80 : decode cX5_divide 80 = .ok (.aload_n 0, 1) := dk_42 (dk_at dksX5_divide_3 10 rfl rfl)
theorem dX5_divide_81 : decode cX5_divide 81 = .ok (.getfield 32, 3) := dk_180 0 32 (dk_at dksX5_divide_3 11 rfl rfl)
theorem dX5_divide_84 : decode cX5_divide 84 = .ok (.aload_n 0, 1) := dk_42 (dk_at dksX5_divide_3 14 rfl rfl)
theorem dX5_divide_85 : decode cX5_divide 85 = .ok (.getfield 35, 3) := dk_180 0 35 (dk_at dksX5_divide_3 15 rfl rfl)
theorem dX5_divide_88 : decode cX5_divide 88 = .ok (.iload 5, 2) := dk_21 5 (dk_at dksX5_divide_3 18 rfl rfl)
theorem dX5_divide_90 : decode cX5_divide 90 = .ok (.invokevirtual 159, 3) := dk_182 0 159 (dk_at dksX5_divide_3 20 rfl rfl)
theorem dX5_divide_93 : decode cX5_divide 93 = .ok (.aload_n 0, 1) := dk_42 (dk_at dksX5_divide_3 23 rfl rfl)
theorem dX5_divide_94 : decode cX5_divide 94 = .ok (.getfield 47, 3) := dk_180 0 47 (dk_at dksX5_divide_4 0 rfl rfl)
theorem dX5_divide_97 : decode cX5_divide 97 = .ok (.invokestatic 98, 3) := dk_184 0 98 (dk_at dksX5_divide_4 3 rfl rfl)
theorem dX5_divide_100 : decode cX5_divide 100 = .ok (.ifCond .eq 13, 3) := dk_153 0 13 (dk_at dksX5_divide_4 6 rfl rfl)
theorem dX5_divide_103 : decode cX5_divide 103 = .ok (.aload_n 0, 1) := dk_42 (dk_at dksX5_divide_4 9 rfl rfl)
theorem dX5_divide_104 : decode cX5_divide 104 = .ok (.getfield 41, 3) := dk_180 0 41 (dk_at dksX5_divide_4 10 rfl rfl)
theorem dX5_divide_107 : decode cX5_divide 107 = .ok (.invokestatic 98, 3) := dk_184 0 98 (dk_at dksX5_divide_4 13 rfl rfl)
theorem dX5_divide_110 : decode cX5_divide 110 = .ok (.ifCond .ne 6, 3) := dk_154 0 6 (dk_at dksX5_divide_4 16 rfl rfl)
theorem dX5_divide_113 : decode cX5_divide 113 = .ok (.bipush (-3), 2) := dk_16 253 (dk_at dksX5_divide_4 19 rfl rfl)
theorem dX5_divide_115 : decode cX5_divide 115 = .ok (.ireturn, 1) := dk_172 (dk_at dksX5_divide_4 21 rfl rfl)
theorem dX5_divide_116 : decode cX5_divide 116 = .ok (.aload_n 0, 1) := dk_42 (dk_at dksX5_divide_4 22 rfl rfl)
theorem dX5_divide_117 : decode cX5_divide 117 = .ok (.iload_n 1, 1) := dk_27 (dk_at dksX5_divide_4 23 rfl rfl)
theorem dX5_divide_118 : decode cX5_divide 118 = .ok (.aload_n 0, 1) := dk_42 (dk_at dksX5_divide_5 0 rfl rfl)
theorem dX5_divide_119 : decode cX5_divide 119 = .ok (.getfield 47, 3) := dk_180 0 47 (dk_at dksX5_divide_5 1 rfl rfl)
theorem dX5_divide_122 : decode cX5_divide 122 = .ok (.invokevirtual 102, 3) := dk_182 0 102 (dk_at dksX5_divide_5 4 rfl rfl)
theorem dX5_divide_125 : decode cX5_divide 125 = .ok (.aload_n 0, 1) := dk_42 (dk_at dksX5_divide_5 7 rfl rfl)
theorem dX5_divide_126 : decode cX5_divide 126 = .ok (.iload_n 2, 1) := dk_28 (dk_at dksX5_divide_5 8 rfl rfl)
theorem dX5_divide_127 : decode cX5_divide 127 = .ok (.aload_n 0, 1) := dk_42 (dk_at dksX5_divide_5 9 rfl rfl)
theorem dX5_divide_128 : decode cX5_divide 128 = .ok (.getfield 41, 3) := dk_180 0 41 (dk_at dksX5_divide_5 10 rfl rfl)
theorem dX5_divide_131 : decode cX5_divide 131 = .ok (.invokevirtual 102, 3) := dk_182 0 102 (dk_at dksX5_divide_5 13 rfl rfl)
theorem dX5_divide_134 : decode cX5_divide 134 = .ok (.iconst 0, 1) := dk_3 (dk_at dksX5_divide_5 16 rfl rfl)
theorem dX5_divide_135 : decode cX5_divide 135 = .ok (.ireturn, 1) := dk_172 (dk_at dksX5_divide_5 17 rfl rfl)
abbrev cX5_divideBy : ByteArray := prog_9_method_34_code
def yX5_divideBy : MethodName := ⟨RX5, "divideBy", "([J[JI)V"⟩
def dkwX5_divideBy_13 : List UInt8 := [167, 255, 228, 177]
abbrev dktX5_divideBy_13 : List UInt8 := dkwX5_divideBy_13 ++ []
def dkwX5_divideBy_12 : List UInt8 := [42, 180, 0, 41, 21, 10, 43, 21, 10, 47, 42, 180, 0, 50, 21, 10, 47, 101, 80, 132, 10, 1]
abbrev dktX5_divideBy_12 : List UInt8 := dkwX5_divideBy_12 ++ dktX5_divideBy_13
def dkwX5_divideBy_11 : List UInt8 := [167, 0, 15, 42, 180, 0, 50, 44, 42, 180, 0, 47, 184, 0, 143, 3, 54, 10, 21, 10, 7, 162, 0, 28]
abbrev dktX5_divideBy_11 : List UInt8 := dkwX5_divideBy_11 ++ dktX5_divideBy_12
def dkwX5_divideBy_10 : List UInt8 := [97, 80, 132, 10, 1, 167, 255, 184, 29, 154, 0, 18, 42, 180, 0, 50, 42, 180, 0, 47, 44, 184, 0, 143]
abbrev dktX5_divideBy_10 : List UInt8 := dkwX5_divideBy_10 ++ dktX5_divideBy_11
def dkwX5_divideBy_9 : List UInt8 := [167, 0, 25, 20, 0, 77, 42, 180, 0, 50, 21, 10, 47, 20, 0, 77, 22, 4, 105, 184, 0, 156, 105, 10]
abbrev dktX5_divideBy_9 : List UInt8 := dkwX5_divideBy_9 ++ dktX5_divideBy_10
def dkwX5_divideBy_8 : List UInt8 := [20, 0, 77, 42, 180, 0, 50, 21, 10, 47, 22, 4, 97, 20, 0, 77, 22, 4, 105, 184, 0, 156, 105]
abbrev dktX5_divideBy_8 : List UInt8 := dkwX5_divideBy_8 ++ dktX5_divideBy_9
def dkwX5_divideBy_7 : List UInt8 := [54, 10, 21, 10, 7, 162, 0, 72, 42, 180, 0, 47, 21, 10, 22, 6, 22, 8, 148, 157, 0, 29]
abbrev dktX5_divideBy_7 : List UInt8 := dkwX5_divideBy_7 ++ dktX5_divideBy_8
def dkwX5_divideBy_6 : List UInt8 := [22, 11, 105, 97, 55, 6, 22, 8, 22, 13, 22, 13, 105, 97, 55, 8, 132, 10, 1, 167, 255, 156, 3]
abbrev dktX5_divideBy_6 : List UInt8 := dkwX5_divideBy_6 ++ dktX5_divideBy_7
def dkwX5_divideBy_5 : List UInt8 := [21, 10, 47, 20, 0, 77, 22, 4, 105, 184, 0, 156, 105, 10, 97, 105, 101, 55, 13, 22, 6, 22, 11]
abbrev dktX5_divideBy_5 : List UInt8 := dkwX5_divideBy_5 ++ dktX5_divideBy_6
def dkwX5_divideBy_4 : List UInt8 := [105, 184, 0, 156, 105, 101, 55, 11, 42, 180, 0, 50, 21, 10, 47, 22, 4, 20, 0, 77, 42, 180, 0, 50]
abbrev dktX5_divideBy_4 : List UInt8 := dkwX5_divideBy_4 ++ dktX5_divideBy_5
def dkwX5_divideBy_3 : List UInt8 := [21, 10, 47, 20, 0, 77, 22, 4, 105, 42, 180, 0, 50, 21, 10, 47, 22, 4, 97, 20, 0, 77, 22, 4]
abbrev dktX5_divideBy_3 : List UInt8 := dkwX5_divideBy_3 ++ dktX5_divideBy_4
def dkwX5_divideBy_2 : List UInt8 := [184, 0, 126, 55, 4, 9, 55, 6, 9, 55, 8, 3, 54, 10, 21, 10, 7, 162, 0, 100, 42, 180, 0, 50]
abbrev dktX5_divideBy_2 : List UInt8 := dkwX5_divideBy_2 ++ dktX5_divideBy_3
def dkwX5_divideBy_1 : List UInt8 := [42, 180, 0, 53, 184, 0, 143, 167, 0, 15, 42, 180, 0, 50, 42, 180, 0, 53, 43, 184, 0, 143, 44]
abbrev dktX5_divideBy_1 : List UInt8 := dkwX5_divideBy_1 ++ dktX5_divideBy_2
def dkwX5_divideBy_0 : List UInt8 := [42, 180, 0, 53, 44, 184, 0, 152, 42, 180, 0, 53, 184, 0, 139, 29, 154, 0, 18, 42, 180, 0, 50, 43]
abbrev dktX5_divideBy_0 : List UInt8 := dkwX5_divideBy_0 ++ dktX5_divideBy_1
theorem dksX5_divideBy_0 : cX5_divideBy.data.toList.drop 0 = dktX5_divideBy_0 := by decide +kernel
theorem dksX5_divideBy_1 : cX5_divideBy.data.toList.drop 24 = dktX5_divideBy_1 := dk_seg dksX5_divideBy_0 24 rfl rfl
theorem dksX5_divideBy_2 : cX5_divideBy.data.toList.drop 47 = dktX5_divideBy_2 := dk_seg dksX5_divideBy_1 23 rfl rfl
theorem dksX5_divideBy_3 : cX5_divideBy.data.toList.drop 71 = dktX5_divideBy_3 := dk_seg dksX5_divideBy_2 24 rfl rfl
theorem dksX5_divideBy_4 : cX5_divideBy.data.toList.drop 95 = dktX5_divideBy_4 := dk_seg dksX5_divideBy_3 24 rfl rfl
theorem dksX5_divideBy_5 : cX5_divideBy.data.toList.drop 119 = dktX5_divideBy_5 := dk_seg dksX5_divideBy_4 24 rfl rfl
theorem dksX5_divideBy_6 : cX5_divideBy.data.toList.drop 142 = dktX5_divideBy_6 := dk_seg dksX5_divideBy_5 23 rfl rfl
theorem dksX5_divideBy_7 : cX5_divideBy.data.toList.drop 165 = dktX5_divideBy_7 := dk_seg dksX5_divideBy_6 23 rfl rfl
theorem dksX5_divideBy_8 : cX5_divideBy.data.toList.drop 187 = dktX5_divideBy_8 := dk_seg dksX5_divideBy_7 22 rfl rfl
theorem dksX5_divideBy_9 : cX5_divideBy.data.toList.drop 210 = dktX5_divideBy_9 := dk_seg dksX5_divideBy_8 23 rfl rfl
theorem dksX5_divideBy_10 : cX5_divideBy.data.toList.drop 234 = dktX5_divideBy_10 := dk_seg dksX5_divideBy_9 24 rfl rfl
theorem dksX5_divideBy_11 : cX5_divideBy.data.toList.drop 258 = dktX5_divideBy_11 := dk_seg dksX5_divideBy_10 24 rfl rfl
theorem dksX5_divideBy_12 : cX5_divideBy.data.toList.drop 282 = dktX5_divideBy_12 := dk_seg dksX5_divideBy_11 24 rfl rfl
theorem dksX5_divideBy_13 : cX5_divideBy.data.toList.drop 304 = dktX5_divideBy_13 := dk_seg dksX5_divideBy_12 22 rfl rfl
theorem dX5_divideBy_0 : decode cX5_divideBy 0 = .ok (.aload_n 0, 1) := dk_42 (dk_at dksX5_divideBy_0 0 rfl rfl)
theorem dX5_divideBy_1 : decode cX5_divideBy 1 = .ok (.getfield 53, 3) := dk_180 0 53 (dk_at dksX5_divideBy_0 1 rfl rfl)
theorem dX5_divideBy_4 : decode cX5_divideBy 4 = .ok (.aload_n 2, 1) := dk_44 (dk_at dksX5_divideBy_0 4 rfl rfl)
theorem dX5_divideBy_5 : decode cX5_divideBy 5 = .ok (.invokestatic 152, 3) := dk_184 0 152 (dk_at dksX5_divideBy_0 5 rfl rfl)
theorem dX5_divideBy_8 : decode cX5_divideBy 8 = .ok (.aload_n 0, 1) := dk_42 (dk_at dksX5_divideBy_0 8 rfl rfl)
theorem dX5_divideBy_9 : decode cX5_divideBy 9 = .ok (.getfield 53, 3) := dk_180 0 53 (dk_at dksX5_divideBy_0 9 rfl rfl)
theorem dX5_divideBy_12 : decode cX5_divideBy 12 = .ok (.invokestatic 139, 3) := dk_184 0 139 (dk_at dksX5_divideBy_0 12 rfl rfl)
theorem dX5_divideBy_15 : decode cX5_divideBy 15 = .ok (.iload_n 3, 1) := dk_29 (dk_at dksX5_divideBy_0 15 rfl rfl)
theorem dX5_divideBy_16 : decode cX5_divideBy 16 = .ok (.ifCond .ne 18, 3) := dk_154 0 18 (dk_at dksX5_divideBy_0 16 rfl rfl)
theorem dX5_divideBy_19 : decode cX5_divideBy 19 = .ok (.aload_n 0, 1) := dk_42 (dk_at dksX5_divideBy_0 19 rfl rfl)
theorem dX5_divideBy_20 : decode cX5_divideBy 20 = .ok (.getfield 50, 3) := dk_180 0 50 (dk_at dksX5_divideBy_0 20 rfl rfl)
theorem dX5_divideBy_23 : decode cX5_divideBy 23 = .ok (.aload_n 1, 1) := dk_43 (dk_at dksX5_divideBy_0 23 rfl rfl)
theorem dX5_divideBy_24 : decode cX5_divideBy 24 = .ok (.aload_n 0, 1) := dk_42 (dk_at dksX5_divideBy_1 0 rfl rfl)
theorem dX5_divideBy_25 : decode cX5_divideBy 25 = .ok (.getfield 53, 3) := dk_180 0 53 (dk_at dksX5_divideBy_1 1 rfl rfl)
theorem dX5_divideBy_28 : decode cX5_divideBy 28 = .ok (.invokestatic 143, 3) := dk_184 0 143 (dk_at dksX5_divideBy_1 4 rfl rfl)
theorem dX5_divideBy_31 : decode cX5_divideBy 31 = .ok (.goto 15, 3) := dk_167 0 15 (dk_at dksX5_divideBy_1 7 rfl rfl)
theorem dX5_divideBy_34 : decode cX5_divideBy 34 = .ok (.aload_n 0, 1) := dk_42 (dk_at dksX5_divideBy_1 10 rfl rfl)
theorem dX5_divideBy_35 : decode cX5_divideBy 35 = .ok (.getfield 50, 3) := dk_180 0 50 (dk_at dksX5_divideBy_1 11 rfl rfl)
theorem dX5_divideBy_38 : decode cX5_divideBy 38 = .ok (.aload_n 0, 1) := dk_42 (dk_at dksX5_divideBy_1 14 rfl rfl)
theorem dX5_divideBy_39 : decode cX5_divideBy 39 = .ok (.getfield 53, 3) := dk_180 0 53 (dk_at dksX5_divideBy_1 15 rfl rfl)
theorem dX5_divideBy_42 : decode cX5_divideBy 42 = .ok (.aload_n 1, 1) := dk_43 (dk_at dksX5_divideBy_1 18 rfl rfl)
theorem dX5_divideBy_43 : decode cX5_divideBy 43 = .ok (.invokestatic 143, 3) := dk_184 0 143 (dk_at dksX5_divideBy_1 19 rfl rfl)
theorem dX5_divideBy_46 : decode cX5_divideBy 46 = .ok (.aload_n 2, 1) := dk_44 (dk_at dksX5_divideBy_1 22 rfl rfl)
theorem dX5_divideBy_47 : decode cX5_divideBy 47 = .ok (.invokestatic 126, 3) := dk_184 0 126 (dk_at dksX5_divideBy_2 0 rfl rfl)
theorem dX5_divideBy_50 : decode cX5_divideBy 50 = .ok (.lstore 4, 2) := dk_55 4 (dk_at dksX5_divideBy_2 3 rfl rfl)
theorem dX5_divideBy_52 : decode cX5_divideBy 52 = .ok (.lconst 0, 1) := dk_9 (dk_at dksX5_divideBy_2 5 rfl rfl)
theorem dX5_divideBy_53 : decode cX5_divideBy 53 = .ok (.lstore 6, 2) := dk_55 6 (dk_at dksX5_divideBy_2 6 rfl rfl)
theorem dX5_divideBy_55 : decode cX5_divideBy 55 = .ok (.lconst 0, 1) := dk_9 (dk_at dksX5_divideBy_2 8 rfl rfl)
theorem dX5_divideBy_56 : decode cX5_divideBy 56 = .ok (.lstore 8, 2) := dk_55 8 (dk_at dksX5_divideBy_2 9 rfl rfl)
theorem dX5_divideBy_58 : decode cX5_divideBy 58 = .ok (.iconst 0, 1) := dk_3 (dk_at dksX5_divideBy_2 11 rfl rfl)
theorem dX5_divideBy_59 : decode cX5_divideBy 59 = .ok (.istore 10, 2) := dk_54 10 (dk_at dksX5_divideBy_2 12 rfl rfl)
theorem dX5_divideBy_61 : decode cX5_divideBy 61 = .ok (.iload 10, 2) := dk_21 10 (dk_at dksX5_divideBy_2 14 rfl rfl)
theorem dX5_divideBy_63 : decode cX5_divideBy 63 = .ok (.iconst 4, 1) := dk_7 (dk_at dksX5_divideBy_2 16 rfl rfl)
theorem dX5_divideBy_64 : decode cX5_divideBy 64 = .ok (.if_icmp .ge 100, 3) := dk_162 0 100 (dk_at dksX5_divideBy_2 17 rfl rfl)
theorem dX5_divideBy_67 : decode cX5_divideBy 67 = .ok (.aload_n 0, 1) := dk_42 (dk_at dksX5_divideBy_2 20 rfl rfl)
theorem dX5_divideBy_68 : decode cX5_divideBy 68 = .ok (.getfield 50, 3) := dk_180 0 50 (dk_at dksX5_divideBy_2 21 rfl rfl)
theorem dX5_divideBy_71 : decode cX5_divideBy 71 = .ok (.iload 10, 2) := dk_21 10 (dk_at dksX5_divideBy_3 0 rfl rfl)
theorem dX5_divideBy_73 : decode cX5_divideBy 73 = .ok (.laload, 1) := dk_47 (dk_at dksX5_divideBy_3 2 rfl rfl)
theorem dX5_divideBy_74 : decode cX5_divideBy 74 = .ok (.ldc2_w 77, 3) := dk_20 0 77 (dk_at dksX5_divideBy_3 3 rfl rfl)
theorem dX5_divideBy_77 : decode cX5_divideBy 77 = .ok (.lload 4, 2) := dk_22 4 (dk_at dksX5_divideBy_3 6 rfl rfl)
theorem dX5_divideBy_79 : decode cX5_divideBy 79 = .ok (.lmul, 1) := dk_105 (dk_at dksX5_divideBy_3 8 rfl rfl)
theorem dX5_divideBy_80 : decode cX5_divideBy 80 = .ok (.aload_n 0, 1) := dk_42 (dk_at dksX5_divideBy_3 9 rfl rfl)
theorem dX5_divideBy_81 : decode cX5_divideBy 81 = .ok (.getfield 50, 3) := dk_180 0 50 (dk_at dksX5_divideBy_3 10 rfl rfl)
theorem dX5_divideBy_84 : decode cX5_divideBy 84 = .ok (.iload 10, 2) := dk_21 10 (dk_at dksX5_divideBy_3 13 rfl rfl)
theorem dX5_divideBy_86 : decode cX5_divideBy 86 = .ok (.laload, 1) := dk_47 (dk_at dksX5_divideBy_3 15 rfl rfl)
theorem dX5_divideBy_87 : decode cX5_divideBy 87 = .ok (.lload 4, 2) := dk_22 4 (dk_at dksX5_divideBy_3 16 rfl rfl)
theorem dX5_divideBy_89 : decode cX5_divideBy 89 = .ok (.ladd, 1) := dk_97 (dk_at dksX5_divideBy_3 18 rfl rfl)
theorem dX5_divideBy_90 : decode cX5_divideBy 90 = .ok (.ldc2_w 77, 3) := dk_20 0 77 (dk_at dksX5_divideBy_3 19 rfl rfl)
theorem dX5_divideBy_93 : decode cX5_divideBy 93 = .ok (.lload 4, 2) := dk_22 4 (dk_at dksX5_divideBy_3 22 rfl rfl)
theorem dX5_divideBy_95 : decode cX5_divideBy 95 = .ok (.lmul, 1) := dk_105 (dk_at dksX5_divideBy_4 0 rfl rfl)
theorem dX5_divideBy_96 : decode cX5_divideBy 96 = .ok (.invokestatic 156, 3) := dk_184 0 156 (dk_at dksX5_divideBy_4 1 rfl rfl)
theorem dX5_divideBy_99 : decode cX5_divideBy 99 = .ok (.lmul, 1) := dk_105 (dk_at dksX5_divideBy_4 4 rfl rfl)
theorem dX5_divideBy_100 : decode cX5_divideBy 100 = .ok (.lsub, 1) := dk_101 (dk_at dksX5_divideBy_4 5 rfl rfl)
theorem dX5_divideBy_101 : decode cX5_divideBy 101 = .ok (.lstore 11, 2) := dk_55 11 (dk_at dksX5_divideBy_4 6 rfl rfl)
theorem dX5_divideBy_103 : decode cX5_divideBy 103 = .ok (.aload_n 0, 1) := dk_42 (dk_at dksX5_divideBy_4 8 rfl rfl)
theorem dX5_divideBy_104 : decode cX5_divideBy 104 = .ok (.getfield 50, 3) := dk_180 0 50 (dk_at dksX5_divideBy_4 9 rfl rfl)
theorem dX5_divideBy_107 : decode cX5_divideBy 107 = .ok (.iload 10, 2) := dk_21 10 (dk_at dksX5_divideBy_4 12 rfl rfl)
theorem dX5_divideBy_109 : decode cX5_divideBy 109 = .ok (.laload, 1) := dk_47 (dk_at dksX5_divideBy_4 14 rfl rfl)
theorem dX5_divideBy_110 : decode cX5_divideBy 110 = .ok (.lload 4, 2) := dk_22 4 (dk_at dksX5_divideBy_4 15 rfl rfl)
theorem dX5_divideBy_112 : decode cX5_divideBy 112 = .ok (.ldc2_w 77, 3) := dk_20 0 77 (dk_at dksX5_divideBy_4 17 rfl rfl)
theorem dX5_divideBy_115 : decode cX5_divideBy 115 = .ok (.aload_n 0, 1) := dk_42 (dk_at dksX5_divideBy_4 20 rfl rfl)
theorem dX5_divideBy_116 : decode cX5_divideBy 116 = .ok (.getfield 50, 3) := dk_180 0 50 (dk_at dksX5_divideBy_4 21 rfl rfl)
theorem dX5_divideBy_119 : decode cX5_divideBy 119 = .ok (.iload 10, 2) := dk_21 10 (dk_at dksX5_divideBy_5 0 rfl rfl)
theorem dX5_divideBy_121 : decode cX5_divideBy 121 = .ok (.laload, 1) := dk_47 (dk_at dksX5_divideBy_5 2 rfl rfl)
theorem dX5_divideBy_122 : decode cX5_divideBy 122 = .ok (.ldc2_w 77, 3) := dk_20 0 77 (dk_at dksX5_divideBy_5 3 rfl rfl)
theorem dX5_divideBy_125 : decode cX5_divideBy 125 = .ok (.lload 4, 2) := dk_22 4 (dk_at dksX5_divideBy_5 6 rfl rfl)
theorem dX5_divideBy_127 : decode cX5_divideBy 127 = .ok (.lmul, 1) := dk_105 (dk_at dksX5_divideBy_5 8 rfl rfl)
theorem dX5_divideBy_128 : decode cX5_divideBy 128 = .ok (.invokestatic 156, 3) := dk_184 0 156 (dk_at dksX5_divideBy_5 9 rfl rfl)
theorem dX5_divideBy_131 : decode cX5_divideBy 131 = .ok (.lmul, 1) := dk_105 (dk_at dksX5_divideBy_5 12 rfl rfl)
theorem dX5_divideBy_132 : decode cX5_divideBy 132 = .ok (.lconst 1, 1) := dk_10 (dk_at dksX5_divideBy_5 13 rfl rfl)
theorem dX5_divideBy_133 : decode cX5_divideBy 133 = .ok (.ladd, 1) := dk_97 (dk_at dksX5_divideBy_5 14 rfl rfl)
theorem dX5_divideBy_134 : decode cX5_divideBy 134 = .ok (.lmul, 1) := dk_105 (dk_at dksX5_divideBy_5 15 rfl rfl)
theorem dX5_divideBy_135 : decode cX5_divideBy 135 = .ok (.lsub, 1) := dk_101 (dk_at dksX5_divideBy_5 16 rfl rfl)
theorem dX5_divideBy_136 : decode cX5_divideBy 136 = .ok (.lstore 13, 2) := dk_55 13 (dk_at dksX5_divideBy_5 17 rfl rfl)
theorem dX5_divideBy_138 : decode cX5_divideBy 138 = .ok (.lload 6, 2) := dk_22 6 (dk_at dksX5_divideBy_5 19 rfl rfl)
theorem dX5_divideBy_140 : decode cX5_divideBy 140 = .ok (.lload 11, 2) := dk_22 11 (dk_at dksX5_divideBy_5 21 rfl rfl)
theorem dX5_divideBy_142 : decode cX5_divideBy 142 = .ok (.lload 11, 2) := dk_22 11 (dk_at dksX5_divideBy_6 0 rfl rfl)
theorem dX5_divideBy_144 : decode cX5_divideBy 144 = .ok (.lmul, 1) := dk_105 (dk_at dksX5_divideBy_6 2 rfl rfl)
theorem dX5_divideBy_145 : decode cX5_divideBy 145 = .ok (.ladd, 1) := dk_97 (dk_at dksX5_divideBy_6 3 rfl rfl)
theorem dX5_divideBy_146 : decode cX5_divideBy 146 = .ok (.lstore 6, 2) := dk_55 6 (dk_at dksX5_divideBy_6 4 rfl rfl)
theorem dX5_divideBy_148 : decode cX5_divideBy 148 = .ok (.lload 8, 2) := dk_22 8 (dk_at dksX5_divideBy_6 6 rfl rfl)
theorem dX5_divideBy_150 : decode cX5_divideBy 150 = .ok (.lload 13, 2) := dk_22 13 (dk_at dksX5_divideBy_6 8 rfl rfl)
theorem dX5_divideBy_152 : decode cX5_divideBy 152 = .ok (.lload 13, 2) := dk_22 13 (dk_at dksX5_divideBy_6 10 rfl rfl)
theorem dX5_divideBy_154 : decode cX5_divideBy 154 = .ok (.lmul, 1) := dk_105 (dk_at dksX5_divideBy_6 12 rfl rfl)
theorem dX5_divideBy_155 : decode cX5_divideBy 155 = .ok (.ladd, 1) := dk_97 (dk_at dksX5_divideBy_6 13 rfl rfl)
theorem dX5_divideBy_156 : decode cX5_divideBy 156 = .ok (.lstore 8, 2) := dk_55 8 (dk_at dksX5_divideBy_6 14 rfl rfl)
theorem dX5_divideBy_158 : decode cX5_divideBy 158 = .ok (.iinc 10 1, 3) := dk_132 10 1 (dk_at dksX5_divideBy_6 16 rfl rfl)
theorem dX5_divideBy_161 : decode cX5_divideBy 161 = .ok (.goto (-100), 3) := dk_167 255 156 (dk_at dksX5_divideBy_6 19 rfl rfl)
theorem dX5_divideBy_164 : decode cX5_divideBy 164 = .ok (.iconst 0, 1) := dk_3 (dk_at dksX5_divideBy_6 22 rfl rfl)
theorem dX5_divideBy_165 : decode cX5_divideBy 165 = .ok (.istore 10, 2) := dk_54 10 (dk_at dksX5_divideBy_7 0 rfl rfl)
theorem dX5_divideBy_167 : decode cX5_divideBy 167 = .ok (.iload 10, 2) := dk_21 10 (dk_at dksX5_divideBy_7 2 rfl rfl)
theorem dX5_divideBy_169 : decode cX5_divideBy 169 = .ok (.iconst 4, 1) := dk_7 (dk_at dksX5_divideBy_7 4 rfl rfl)
theorem dX5_divideBy_170 : decode cX5_divideBy 170 = .ok (.if_icmp .ge 72, 3) := dk_162 0 72 (dk_at dksX5_divideBy_7 5 rfl rfl)
theorem dX5_divideBy_173 : decode cX5_divideBy 173 = .ok (.aload_n 0, 1) := dk_42 (dk_at dksX5_divideBy_7 8 rfl rfl)
theorem dX5_divideBy_174 : decode cX5_divideBy 174 = .ok (.getfield 47, 3) := dk_180 0 47 (dk_at dksX5_divideBy_7 9 rfl rfl)
theorem dX5_divideBy_177 : decode cX5_divideBy 177 = .ok (.iload 10, 2) := dk_21 10 (dk_at dksX5_divideBy_7 12 rfl rfl)
theorem dX5_divideBy_179 : decode cX5_divideBy 179 = .ok (.lload 6, 2) := dk_22 6 (dk_at dksX5_divideBy_7 14 rfl rfl)
theorem dX5_divideBy_181 : decode cX5_divideBy 181 = .ok (.lload 8, 2) := dk_22 8 (dk_at dksX5_divideBy_7 16 rfl rfl)
theorem dX5_divideBy_183 : decode cX5_divideBy 183 = .ok (.lcmp, 1) := dk_148 (dk_at dksX5_divideBy_7 18 rfl rfl)
theorem dX5_divideBy_184 : decode cX5_divideBy 184 = .ok (.ifCond .gt 29, 3) := dk_157 0 29 (dk_at dksX5_divideBy_7 19 rfl rfl)
theorem dX5_divideBy_187 : decode cX5_divideBy 187 = .ok (.ldc2_w 77, 3) := dk_20 0 77 (dk_at dksX5_divideBy_8 0 rfl rfl)
theorem dX5_divideBy_190 : decode cX5_divideBy 190 = .ok (.aload_n 0, 1) := dk_42 (dk_at dksX5_divideBy_8 3 rfl rfl)
theorem dX5_divideBy_191 : decode cX5_divideBy 191 = .ok (.getfield 50, 3) := dk_180 0 50 (dk_at dksX5_divideBy_8 4 rfl rfl)
theorem dX5_divideBy_194 : decode cX5_divideBy 194 = .ok (.iload 10, 2) := dk_21 10 (dk_at dksX5_divideBy_8 7 rfl rfl)
theorem dX5_divideBy_196 : decode cX5_divideBy 196 = .ok (.laload, 1) := dk_47 (dk_at dksX5_divideBy_8 9 rfl rfl)
theorem dX5_divideBy_197 : decode cX5_divideBy 197 = .ok (.lload 4, 2) := dk_22 4 (dk_at dksX5_divideBy_8 10 rfl rfl)
theorem dX5_divideBy_199 : decode cX5_divideBy 199 = .ok (.ladd, 1) := dk_97 (dk_at dksX5_divideBy_8 12 rfl rfl)
theorem dX5_divideBy_200 : decode cX5_divideBy 200 = .ok (.ldc2_w 77, 3) := dk_20 0 77 (dk_at dksX5_divideBy_8 13 rfl rfl)
theorem dX5_divideBy_203 : decode cX5_divideBy 203 = .ok (.lload 4, 2) := dk_22 4 (dk_at dksX5_divideBy_8 16 rfl rfl)
theorem dX5_divideBy_205 : decode cX5_divideBy 205 = .ok (.lmul, 1) := dk_105 (dk_at dksX5_divideBy_8 18 rfl rfl)
theorem dX5_divideBy_206 : decode cX5_divideBy 206 = .ok (.invokestatic 156, 3) := dk_184 0 156 (dk_at dksX5_divideBy_8 19 rfl rfl)
theorem dX5_divideBy_209 : decode cX5_divideBy 209 = .ok (.lmul, 1) := dk_105 (dk_at dksX5_divideBy_8 22 rfl rfl)
theorem dX5_divideBy_210 : decode cX5_divideBy 210 = .ok (.goto 25, 3) := dk_167 0 25 (dk_at dksX5_divideBy_9 0 rfl rfl)
theorem dX5_divideBy_213 : decode cX5_divideBy 213 = .ok (.ldc2_w 77, 3) := dk_20 0 77 (dk_at dksX5_divideBy_9 3 rfl rfl)
theorem dX5_divideBy_216 : decode cX5_divideBy 216 = .ok (.aload_n 0, 1) := dk_42 (dk_at dksX5_divideBy_9 6 rfl rfl)
theorem dX5_divideBy_217 : decode cX5_divideBy 217 = .ok (.getfield 50, 3) := dk_180 0 50 (dk_at dksX5_divideBy_9 7 rfl rfl)
theorem dX5_divideBy_220 : decode cX5_divideBy 220 = .ok (.iload 10, 2) := dk_21 10 (dk_at dksX5_divideBy_9 10 rfl rfl)
theorem dX5_divideBy_222 : decode cX5_divideBy 222 = .ok (.laload, 1) := dk_47 (dk_at dksX5_divideBy_9 12 rfl rfl)
theorem dX5_divideBy_223 : decode cX5_divideBy 223 = .ok (.ldc2_w 77, 3) := dk_20 0 77 (dk_at dksX5_divideBy_9 13 rfl rfl)
theorem dX5_divideBy_226 : decode cX5_divideBy 226 = .ok (.lload 4, 2) := dk_22 4 (dk_at dksX5_divideBy_9 16 rfl rfl)
theorem dX5_divideBy_228 : decode cX5_divideBy 228 = .ok (.lmul, 1) := dk_105 (dk_at dksX5_divideBy_9 18 rfl rfl)
theorem dX5_divideBy_229 : decode cX5_divideBy 229 = .ok (.invokestatic 156, 3) := dk_184 0 156 (dk_at dksX5_divideBy_9 19 rfl rfl)
theorem dX5_divideBy_232 : decode cX5_divideBy 232 = .ok (.lmul, 1) := dk_105 (dk_at dksX5_divideBy_9 22 rfl rfl)
theorem dX5_divideBy_233 : decode cX5_divideBy 233 = .ok (.lconst 1, 1) := dk_10 (dk_at dksX5_divideBy_9 23 rfl rfl)
theorem dX5_divideBy_234 : decode cX5_divideBy 234 = .ok (.ladd, 1) := dk_97 (dk_at dksX5_divideBy_10 0 rfl rfl)
theorem dX5_divideBy_235 : decode cX5_divideBy 235 = .ok (.lastore, 1) := dk_80 (dk_at dksX5_divideBy_10 1 rfl rfl)
theorem dX5_divideBy_236 : decode cX5_divideBy 236 = .ok (.iinc 10 1, 3) := dk_132 10 1 (dk_at dksX5_divideBy_10 2 rfl rfl)
theorem dX5_divideBy_239 : decode cX5_divideBy 239 = .ok (.goto (-72), 3) := dk_167 255 184 (dk_at dksX5_divideBy_10 5 rfl rfl)
theorem dX5_divideBy_242 : decode cX5_divideBy 242 = .ok (.iload_n 3, 1) := dk_29 (dk_at dksX5_divideBy_10 8 rfl rfl)
theorem dX5_divideBy_243 : decode cX5_divideBy 243 = .ok (.ifCond .ne 18, 3) := dk_154 0 18 (dk_at dksX5_divideBy_10 9 rfl rfl)
theorem dX5_divideBy_246 : decode cX5_divideBy 246 = .ok (.aload_n 0, 1) := dk_42 (dk_at dksX5_divideBy_10 12 rfl rfl)
theorem dX5_divideBy_247 : decode cX5_divideBy 247 = .ok (.getfield 50, 3) := dk_180 0 50 (dk_at dksX5_divideBy_10 13 rfl rfl)
theorem dX5_divideBy_250 : decode cX5_divideBy 250 = .ok (.aload_n 0, 1) := dk_42 (dk_at dksX5_divideBy_10 16 rfl rfl)
theorem dX5_divideBy_251 : decode cX5_divideBy 251 = .ok (.getfield 47, 3) := dk_180 0 47 (dk_at dksX5_divideBy_10 17 rfl rfl)
theorem dX5_divideBy_254 : decode cX5_divideBy 254 = .ok (.aload_n 2, 1) := dk_44 (dk_at dksX5_divideBy_10 20 rfl rfl)
theorem dX5_divideBy_255 : decode cX5_divideBy 255 = .ok (.invokestatic 143, 3) := dk_184 0 143 (dk_at dksX5_divideBy_10 21 rfl rfl)
theorem dX5_divideBy_258 : decode cX5_divideBy 258 = .ok (.goto 15, 3) := dk_167 0 15 (dk_at dksX5_divideBy_11 0 rfl rfl)
theorem dX5_divideBy_261 : decode cX5_divideBy 261 = .ok (.aload_n 0, 1) := dk_42 (dk_at dksX5_divideBy_11 3 rfl rfl)
theorem dX5_divideBy_262 : decode cX5_divideBy 262 = .ok (.getfield 50, 3) := dk_180 0 50 (dk_at dksX5_divideBy_11 4 rfl rfl)
theorem dX5_divideBy_265 : decode cX5_divideBy 265 = .ok (.aload_n 2, 1) := dk_44 (dk_at dksX5_divideBy_11 7 rfl rfl)
theorem dX5_divideBy_266 : decode cX5_divideBy 266 = .ok (.aload_n 0, 1) := dk_42 (dk_at dksX5_divideBy_11 8 rfl rfl)
theorem dX5_divideBy_267 : decode cX5_divideBy 267 = .ok (.getfield 47, 3) := dk_180 0 47 (dk_at dksX5_divideBy_11 9 rfl rfl)
theorem dX5_divideBy_270 : decode cX5_divideBy 270 = .ok (.invokestatic 143, 3) := dk_184 0 143 (dk_at dksX5_divideBy_11 12 rfl rfl)
theorem dX5_divideBy_273 : decode cX5_divideBy 273 = .ok (.iconst 0, 1) := dk_3 (dk_at dksX5_divideBy_11 15 rfl rfl)
theorem dX5_divideBy_274 : decode cX5_divideBy 274 = .ok (.istore 10, 2) := dk_54 10 (dk_at dksX5_divideBy_11 16 rfl rfl)
theorem dX5_divideBy_276 : decode cX5_divideBy 276 = .ok (.iload 10, 2) := dk_21 10 (dk_at dksX5_divideBy_11 18 rfl rfl)
theorem dX5_divideBy_278 : decode cX5_divideBy 278 = .ok (.iconst 4, 1) := dk_7 (dk_at dksX5_divideBy_11 20 rfl rfl)
theorem dX5_divideBy_279 : decode cX5_divideBy 279 = .ok (.if_icmp .ge 28, 3) := dk_162 0 28 (dk_at dksX5_divideBy_11 21 rfl rfl)
theorem dX5_divideBy_282 : decode cX5_divideBy 282 = .ok (.aload_n 0, 1) := dk_42 (dk_at dksX5_divideBy_12 0 rfl rfl)
theorem dX5_divideBy_283 : decode cX5_divideBy 283 = .ok (.getfield 41, 3) := dk_180 0 41 (dk_at dksX5_divideBy_12 1 rfl rfl)
theorem dX5_divideBy_286 : decode cX5_divideBy 286 = .ok (.iload 10, 2) := dk_21 10 (dk_at dksX5_divideBy_12 4 rfl rfl)
theorem dX5_divideBy_288 : decode cX5_divideBy 288 = .ok (.aload_n 1, 1) := dk_43 (dk_at dksX5_divideBy_12 6 rfl rfl)
theorem dX5_divideBy_289 : decode cX5_divideBy 289 = .ok (.iload 10, 2) := dk_21 10 (dk_at dksX5_divideBy_12 7 rfl rfl)
theorem dX5_divideBy_291 : decode cX5_divideBy 291 = .ok (.laload, 1) := dk_47 (dk_at dksX5_divideBy_12 9 rfl rfl)
theorem dX5_divideBy_292 : decode cX5_divideBy 292 = .ok (.aload_n 0, 1) := dk_42 (dk_at dksX5_divideBy_12 10 rfl rfl)
theorem dX5_divideBy_293 : decode cX5_divideBy 293 = .ok (.getfield 50, 3) := dk_180 0 50 (dk_at dksX5_divideBy_12 11 rfl rfl)
theorem dX5_divideBy_296 : decode cX5_divideBy 296 = .ok (.iload 10, 2) := dk_21 10 (dk_at dksX5_divideBy_12 14 rfl rfl)
theorem dX5_divideBy_298 : decode cX5_divideBy 298 = .ok (.laload, 1) := dk_47 (dk_at dksX5_divideBy_12 16 rfl rfl)
theorem dX5_divideBy_299 : decode cX5_divideBy 299 = .ok (.lsub, 1) := dk_101 (dk_at dksX5_divideBy_12 17 rfl rfl)
theorem dX5_divideBy_300 : decode cX5_divideBy 300 = .ok (.lastore, 1) := dk_80 (dk_at dksX5_divideBy_12 18 rfl rfl)
theorem dX5_divideBy_301 : decode cX5_divideBy 301 = .ok (.iinc 10 1, 3) := dk_132 10 1 (dk_at dksX5_divideBy_12 19 rfl rfl)
theorem dX5_divideBy_304 : decode cX5_divideBy 304 = .ok (.goto (-28), 3) := dk_167 255 228 (dk_at dksX5_divideBy_13 0 rfl rfl)
theorem dX5_divideBy_307 : decode cX5_divideBy 307 = .ok (.return_, 1) := dk_177 (dk_at dksX5_divideBy_13 3 rfl rfl)
abbrev cX5_copy4 : ByteArray := prog_9_method_16_code
def yX5_copy4 : MethodName := ⟨RX5, "copy4", "([J[J)V"⟩
def dkwX5_copy4_0 : List UInt8 := [3, 61, 28, 7, 162, 0, 15, 42, 28, 43, 28, 47, 80, 132, 2, 1, 167, 255, 242, 177]
abbrev dktX5_copy4_0 : List UInt8 := dkwX5_copy4_0 ++ []
theorem dksX5_copy4_0 : cX5_copy4.data.toList.drop 0 = dktX5_copy4_0 := by decide +kernel
theorem dX5_copy4_0 : decode cX5_copy4 0 = .ok (.iconst 0, 1) := dk_3 (dk_at dksX5_copy4_0 0 rfl rfl)
theorem dX5_copy4_1 : decode cX5_copy4 1 = .ok (.istore_n 2, 1) := dk_61 (dk_at dksX5_copy4_0 1 rfl rfl)
theorem dX5_copy4_2 : decode cX5_copy4 2 = .ok (.iload_n 2, 1) := dk_28 (dk_at dksX5_copy4_0 2 rfl rfl)
theorem dX5_copy4_3 : decode cX5_copy4 3 = .ok (.iconst 4, 1) := dk_7 (dk_at dksX5_copy4_0 3 rfl rfl)
theorem dX5_copy4_4 : decode cX5_copy4 4 = .ok (.if_icmp .ge 15, 3) := dk_162 0 15 (dk_at dksX5_copy4_0 4 rfl rfl)
theorem dX5_copy4_7 : decode cX5_copy4 7 = .ok (.aload_n 0, 1) := dk_42 (dk_at dksX5_copy4_0 7 rfl rfl)
theorem dX5_copy4_8 : decode cX5_copy4 8 = .ok (.iload_n 2, 1) := dk_28 (dk_at dksX5_copy4_0 8 rfl rfl)
theorem dX5_copy4_9 : decode cX5_copy4 9 = .ok (.aload_n 1, 1) := dk_43 (dk_at dksX5_copy4_0 9 rfl rfl)
theorem dX5_copy4_10 : decode cX5_copy4 10 = .ok (.iload_n 2, 1) := dk_28 (dk_at dksX5_copy4_0 10 rfl rfl)
theorem dX5_copy4_11 : decode cX5_copy4 11 = .ok (.laload, 1) := dk_47 (dk_at dksX5_copy4_0 11 rfl rfl)
theorem dX5_copy4_12 : decode cX5_copy4 12 = .ok (.lastore, 1) := dk_80 (dk_at dksX5_copy4_0 12 rfl rfl)
theorem dX5_copy4_13 : decode cX5_copy4 13 = .ok (.iinc 2 1, 3) := dk_132 2 1 (dk_at dksX5_copy4_0 13 rfl rfl)
theorem dX5_copy4_16 : decode cX5_copy4 16 = .ok (.goto (-14), 3) := dk_167 255 242 (dk_at dksX5_copy4_0 16 rfl rfl)
theorem dX5_copy4_19 : decode cX5_copy4 19 = .ok (.return_, 1) := dk_177 (dk_at dksX5_copy4_0 19 rfl rfl)
abbrev cX5_floored : ByteArray := prog_9_method_33_code
def yX5_floored : MethodName := ⟨RX5, "floored", "(JJ)J"⟩
def dkwX5_floored_1 : List UInt8 := [167, 0, 5, 22, 4, 173]
abbrev dktX5_floored_1 : List UInt8 := dkwX5_floored_1 ++ []
def dkwX5_floored_0 : List UInt8 := [30, 32, 109, 55, 4, 30, 32, 113, 9, 148, 153, 0, 16, 30, 9, 148, 156, 0, 10, 22, 4, 10, 101]
abbrev dktX5_floored_0 : List UInt8 := dkwX5_floored_0 ++ dktX5_floored_1
theorem dksX5_floored_0 : cX5_floored.data.toList.drop 0 = dktX5_floored_0 := by decide +kernel
theorem dksX5_floored_1 : cX5_floored.data.toList.drop 23 = dktX5_floored_1 := dk_seg dksX5_floored_0 23 rfl rfl
theorem dX5_floored_0 : decode cX5_floored 0 = .ok (.lload_n 0, 1) := dk_30 (dk_at dksX5_floored_0 0 rfl rfl)
theorem dX5_floored_1 : decode cX5_floored 1 = .ok (.lload_n 2, 1) := dk_32 (dk_at dksX5_floored_0 1 rfl rfl)
theorem dX5_floored_2 : decode cX5_floored 2 = .ok (.ldiv, 1) := dk_109 (dk_at dksX5_floored_0 2 rfl rfl)
theorem dX5_floored_3 : decode cX5_floored 3 = .ok (.lstore 4, 2) := dk_55 4 (dk_at dksX5_floored_0 3 rfl rfl)
theorem dX5_floored_5 : decode cX5_floored 5 = .ok (.lload_n 0, 1) := dk_30 (dk_at dksX5_floored_0 5 rfl rfl)
theorem dX5_floored_6 : decode cX5_floored 6 = .ok (.lload_n 2, 1) := dk_32 (dk_at dksX5_floored_0 6 rfl rfl)
theorem dX5_floored_7 : decode cX5_floored 7 = .ok (.lrem, 1) := dk_113 (dk_at dksX5_floored_0 7 rfl rfl)
theorem dX5_floored_8 : decode cX5_floored 8 = .ok (.lconst 0, 1) := dk_9 (dk_at dksX5_floored_0 8 rfl rfl)
theorem dX5_floored_9 : decode cX5_floored 9 = .ok (.lcmp, 1) := dk_148 (dk_at dksX5_floored_0 9 rfl rfl)
theorem dX5_floored_10 : decode cX5_floored 10 = .ok (.ifCond .eq 16, 3) := dk_153 0 16 (dk_at dksX5_floored_0 10 rfl rfl)
theorem dX5_floored_13 : decode cX5_floored 13 = .ok (.lload_n 0, 1) := dk_30 (dk_at dksX5_floored_0 13 rfl rfl)
theorem dX5_floored_14 : decode cX5_floored 14 = .ok (.lconst 0, 1) := dk_9 (dk_at dksX5_floored_0 14 rfl rfl)
theorem dX5_floored_15 : decode cX5_floored 15 = .ok (.lcmp, 1) := dk_148 (dk_at dksX5_floored_0 15 rfl rfl)
theorem dX5_floored_16 : decode cX5_floored 16 = .ok (.ifCond .ge 10, 3) := dk_156 0 10 (dk_at dksX5_floored_0 16 rfl rfl)
theorem dX5_floored_19 : decode cX5_floored 19 = .ok (.lload 4, 2) := dk_22 4 (dk_at dksX5_floored_0 19 rfl rfl)
theorem dX5_floored_21 : decode cX5_floored 21 = .ok (.lconst 1, 1) := dk_10 (dk_at dksX5_floored_0 21 rfl rfl)
theorem dX5_floored_22 : decode cX5_floored 22 = .ok (.lsub, 1) := dk_101 (dk_at dksX5_floored_0 22 rfl rfl)
theorem dX5_floored_23 : decode cX5_floored 23 = .ok (.goto 5, 3) := dk_167 0 5 (dk_at dksX5_floored_1 0 rfl rfl)
theorem dX5_floored_26 : decode cX5_floored 26 = .ok (.lload 4, 2) := dk_22 4 (dk_at dksX5_floored_1 3 rfl rfl)
theorem dX5_floored_28 : decode cX5_floored 28 = .ok (.lreturn, 1) := dk_173 (dk_at dksX5_floored_1 5 rfl rfl)
abbrev cX5_divisor : ByteArray := prog_9_method_37_code
def yX5_divisor : MethodName := ⟨RX5, "divisor", "(IIII)I"⟩
def dkwX5_divisor_4 : List UInt8 := [180, 0, 44, 184, 0, 126, 136, 167, 0, 5, 16, 253, 172]
abbrev dktX5_divisor_4 : List UInt8 := dkwX5_divisor_4 ++ []
def dkwX5_divisor_3 : List UInt8 := [16, 254, 172, 42, 21, 4, 182, 0, 167, 42, 27, 42, 180, 0, 44, 182, 0, 108, 154, 0, 14, 42]
abbrev dktX5_divisor_3 : List UInt8 := dkwX5_divisor_3 ++ dktX5_divisor_4
def dkwX5_divisor_2 : List UInt8 := [29, 182, 0, 122, 42, 180, 0, 32, 184, 0, 112, 153, 0, 16, 42, 180, 0, 35, 184, 0, 112, 153, 0, 6]
abbrev dktX5_divisor_2 : List UInt8 := dkwX5_divisor_2 ++ dktX5_divisor_3
def dkwX5_divisor_1 : List UInt8 := [9, 10, 184, 0, 65, 154, 0, 5, 2, 172, 42, 42, 180, 0, 32, 28, 182, 0, 122, 42, 42, 180, 0, 35]
abbrev dktX5_divisor_1 : List UInt8 := dkwX5_divisor_1 ++ dktX5_divisor_2
def dkwX5_divisor_0 : List UInt8 := [27, 184, 0, 91, 153, 0, 28, 28, 184, 0, 91, 153, 0, 21, 29, 184, 0, 91, 153, 0, 14, 21, 4, 133]
abbrev dktX5_divisor_0 : List UInt8 := dkwX5_divisor_0 ++ dktX5_divisor_1
theorem dksX5_divisor_0 : cX5_divisor.data.toList.drop 0 = dktX5_divisor_0 := by decide +kernel
theorem dksX5_divisor_1 : cX5_divisor.data.toList.drop 24 = dktX5_divisor_1 := dk_seg dksX5_divisor_0 24 rfl rfl
theorem dksX5_divisor_2 : cX5_divisor.data.toList.drop 48 = dktX5_divisor_2 := dk_seg dksX5_divisor_1 24 rfl rfl
theorem dksX5_divisor_3 : cX5_divisor.data.toList.drop 72 = dktX5_divisor_3 := dk_seg dksX5_divisor_2 24 rfl rfl
theorem dksX5_divisor_4 : cX5_divisor.data.toList.drop 94 = dktX5_divisor_4 := dk_seg dksX5_divisor_3 22 rfl rfl
theorem dX5_divisor_0 : decode cX5_divisor 0 = .ok (.iload_n 1, 1) := dk_27 (dk_at dksX5_divisor_0 0 rfl rfl)
theorem dX5_divisor_1 : decode cX5_divisor 1 = .ok (.invokestatic 91, 3) := dk_184 0 91 (dk_at dksX5_divisor_0 1 rfl rfl)
theorem dX5_divisor_4 : decode cX5_divisor 4 = .ok (.ifCond .eq 28, 3) := dk_153 0 28 (dk_at dksX5_divisor_0 4 rfl rfl)
theorem dX5_divisor_7 : decode cX5_divisor 7 = .ok (.iload_n 2, 1) := dk_28 (dk_at dksX5_divisor_0 7 rfl rfl)
theorem dX5_divisor_8 : decode cX5_divisor 8 = .ok (.invokestatic 91, 3) := dk_184 0 91 (dk_at dksX5_divisor_0 8 rfl rfl)
theorem dX5_divisor_11 : decode cX5_divisor 11 = .ok (.ifCond .eq 21, 3) := dk_153 0 21 (dk_at dksX5_divisor_0 11 rfl rfl)
theorem dX5_divisor_14 : decode cX5_divisor 14 = .ok (.iload_n 3, 1) := dk_29 (dk_at dksX5_divisor_0 14 rfl rfl)
theorem dX5_divisor_15 : decode cX5_divisor 15 = .ok (.invokestatic 91, 3) := dk_184 0 91 (dk_at dksX5_divisor_0 15 rfl rfl)
theorem dX5_divisor_18 : decode cX5_divisor 18 = .ok (.ifCond .eq 14, 3) := dk_153 0 14 (dk_at dksX5_divisor_0 18 rfl rfl)
theorem dX5_divisor_21 : decode cX5_divisor 21 = .ok (.iload 4, 2) := dk_21 4 (dk_at dksX5_divisor_0 21 rfl rfl)
theorem dX5_divisor_23 : decode cX5_divisor 23 = .ok (.i2l, 1) := dk_133 (dk_at dksX5_divisor_0 23 rfl rfl)
theorem dX5_divisor_24 : decode cX5_divisor 24 = .ok (.lconst 0, 1) := dk_9 (dk_at dksX5_divisor_1 0 rfl rfl)
theorem dX5_divisor_25 : decode cX5_divisor 25 = .ok (.lconst 1, 1) := dk_10 (dk_at dksX5_divisor_1 1 rfl rfl)
theorem dX5_divisor_26 : decode cX5_divisor 26 = .ok (.invokestatic 65, 3) := dk_184 0 65 (dk_at dksX5_divisor_1 2 rfl rfl)
theorem dX5_divisor_29 : decode cX5_divisor 29 = .ok (.ifCond .ne 5, 3) := dk_154 0 5 (dk_at dksX5_divisor_1 5 rfl rfl)
theorem dX5_divisor_32 : decode cX5_divisor 32 = .ok (.iconst (-1), 1) := dk_2 (dk_at dksX5_divisor_1 8 rfl rfl)
theorem dX5_divisor_33 : decode cX5_divisor 33 = .ok (.ireturn, 1) := dk_172 (dk_at dksX5_divisor_1 9 rfl rfl)
theorem dX5_divisor_34 : decode cX5_divisor 34 = .ok (.aload_n 0, 1) := dk_42 (dk_at dksX5_divisor_1 10 rfl rfl)
theorem dX5_divisor_35 : decode cX5_divisor 35 = .ok (.aload_n 0, 1) := dk_42 (dk_at dksX5_divisor_1 11 rfl rfl)
theorem dX5_divisor_36 : decode cX5_divisor 36 = .ok (.getfield 32, 3) := dk_180 0 32 (dk_at dksX5_divisor_1 12 rfl rfl)
theorem dX5_divisor_39 : decode cX5_divisor 39 = .ok (.iload_n 2, 1) := dk_28 (dk_at dksX5_divisor_1 15 rfl rfl)
theorem dX5_divisor_40 : decode cX5_divisor 40 = .ok (.invokevirtual 122, 3) := dk_182 0 122 (dk_at dksX5_divisor_1 16 rfl rfl)
theorem dX5_divisor_43 : decode cX5_divisor 43 = .ok (.aload_n 0, 1) := dk_42 (dk_at dksX5_divisor_1 19 rfl rfl)
theorem dX5_divisor_44 : decode cX5_divisor 44 = .ok (.aload_n 0, 1) := dk_42 (dk_at dksX5_divisor_1 20 rfl rfl)
theorem dX5_divisor_45 : decode cX5_divisor 45 = .ok (.getfield 35, 3) := dk_180 0 35 (dk_at dksX5_divisor_1 21 rfl rfl)
theorem dX5_divisor_48 : decode cX5_divisor 48 = .ok (.iload_n 3, 1) := dk_29 (dk_at dksX5_divisor_2 0 rfl rfl)
theorem dX5_divisor_49 : decode cX5_divisor 49 = .ok (.invokevirtual 122, 3) := dk_182 0 122 (dk_at dksX5_divisor_2 1 rfl rfl)
theorem dX5_divisor_52 : decode cX5_divisor 52 = .ok (.aload_n 0, 1) := dk_42 (dk_at dksX5_divisor_2 4 rfl rfl)
theorem dX5_divisor_53 : decode cX5_divisor 53 = .ok (.getfield 32, 3) := dk_180 0 32 (dk_at dksX5_divisor_2 5 rfl rfl)
theorem dX5_divisor_56 : decode cX5_divisor 56 = .ok (.invokestatic 112, 3) := dk_184 0 112 (dk_at dksX5_divisor_2 8 rfl rfl)
theorem dX5_divisor_59 : decode cX5_divisor 59 = .ok (.ifCond .eq 16, 3) := dk_153 0 16 (dk_at dksX5_divisor_2 11 rfl rfl)
theorem dX5_divisor_62 : decode cX5_divisor 62 = .ok (.aload_n 0, 1) := dk_42 (dk_at dksX5_divisor_2 14 rfl rfl)
theorem dX5_divisor_63 : decode cX5_divisor 63 = .ok (.getfield 35, 3) := dk_180 0 35 (dk_at dksX5_divisor_2 15 rfl rfl)
theorem dX5_divisor_66 : decode cX5_divisor 66 = .ok (.invokestatic 112, 3) := dk_184 0 112 (dk_at dksX5_divisor_2 18 rfl rfl)
theorem dX5_divisor_69 : decode cX5_divisor 69 = .ok (.ifCond .eq 6, 3) := dk_153 0 6 (dk_at dksX5_divisor_2 21 rfl rfl)
theorem dX5_divisor_72 : decode cX5_divisor 72 = .ok (.bipush (-2), 2) := dk_16 254 (dk_at dksX5_divisor_3 0 rfl rfl)
theorem dX5_divisor_74 : decode cX5_divisor 74 = .ok (.ireturn, 1) := dk_172 (dk_at dksX5_divisor_3 2 rfl rfl)
theorem dX5_divisor_75 : decode cX5_divisor 75 = .ok (.aload_n 0, 1) := dk_42 (dk_at dksX5_divisor_3 3 rfl rfl)
theorem dX5_divisor_76 : decode cX5_divisor 76 = .ok (.iload 4, 2) := dk_21 4 (dk_at dksX5_divisor_3 4 rfl rfl)
theorem dX5_divisor_78 : decode cX5_divisor 78 = .ok (.invokevirtual 167, 3) := dk_182 0 167 (dk_at dksX5_divisor_3 6 rfl rfl)
theorem dX5_divisor_81 : decode cX5_divisor 81 = .ok (.aload_n 0, 1) := dk_42 (dk_at dksX5_divisor_3 9 rfl rfl)
theorem dX5_divisor_82 : decode cX5_divisor 82 = .ok (.iload_n 1, 1) := dk_27 (dk_at dksX5_divisor_3 10 rfl rfl)
theorem dX5_divisor_83 : decode cX5_divisor 83 = .ok (.aload_n 0, 1) := dk_42 (dk_at dksX5_divisor_3 11 rfl rfl)
theorem dX5_divisor_84 : decode cX5_divisor 84 = .ok (.getfield 44, 3) := dk_180 0 44 (dk_at dksX5_divisor_3 12 rfl rfl)
theorem dX5_divisor_87 : decode cX5_divisor 87 = .ok (.invokevirtual 108, 3) := dk_182 0 108 (dk_at dksX5_divisor_3 15 rfl rfl)
theorem dX5_divisor_90 : decode cX5_divisor 90 = .ok (.ifCond .ne 14, 3) := dk_154 0 14 (dk_at dksX5_divisor_3 18 rfl rfl)
theorem dX5_divisor_93 : decode cX5_divisor 93 = .ok (.aload_n 0, 1) := dk_42 (dk_at dksX5_divisor_3 21 rfl rfl)
theorem dX5_divisor_94 : decode cX5_divisor 94 = .ok (.getfield 44, 3) := dk_180 0 44 (dk_at dksX5_divisor_4 0 rfl rfl)
theorem dX5_divisor_97 : decode cX5_divisor 97 = .ok (.invokestatic 126, 3) := dk_184 0 126 (dk_at dksX5_divisor_4 3 rfl rfl)
theorem dX5_divisor_100 : decode cX5_divisor 100 = .ok (.l2i, 1) := dk_136 (dk_at dksX5_divisor_4 6 rfl rfl)
theorem dX5_divisor_101 : decode cX5_divisor 101 = .ok (.goto 5, 3) := dk_167 0 5 (dk_at dksX5_divisor_4 7 rfl rfl)
theorem dX5_divisor_104 : decode cX5_divisor 104 = .ok (.bipush (-3), 2) := dk_16 253 (dk_at dksX5_divisor_4 10 rfl rfl)
theorem dX5_divisor_106 : decode cX5_divisor 106 = .ok (.ireturn, 1) := dk_172 (dk_at dksX5_divisor_4 12 rfl rfl)
abbrev cX5_findDivisor : ByteArray := prog_9_method_36_code
def yX5_findDivisor : MethodName := ⟨RX5, "findDivisor", "(I)V"⟩
def dkwX5_findDivisor_6 : List UInt8 := [167, 255, 176, 177]
abbrev dktX5_findDivisor_6 : List UInt8 := dkwX5_findDivisor_6 ++ []
def dkwX5_findDivisor_5 : List UInt8 := [180, 0, 44, 184, 0, 163, 153, 0, 14, 42, 180, 0, 44, 42, 180, 0, 38, 184, 0, 152, 132, 2, 1]
abbrev dktX5_findDivisor_5 : List UInt8 := dkwX5_findDivisor_5 ++ dktX5_findDivisor_6
def dkwX5_findDivisor_4 : List UInt8 := [167, 0, 18, 42, 180, 0, 38, 42, 180, 0, 32, 42, 180, 0, 35, 184, 0, 143, 42, 180, 0, 38, 42]
abbrev dktX5_findDivisor_4 : List UInt8 := dkwX5_findDivisor_4 ++ dktX5_findDivisor_5
def dkwX5_findDivisor_3 : List UInt8 := [28, 182, 0, 149, 27, 154, 0, 21, 42, 180, 0, 38, 42, 180, 0, 35, 42, 180, 0, 32, 184, 0, 143]
abbrev dktX5_findDivisor_3 : List UInt8 := dkwX5_findDivisor_3 ++ dktX5_findDivisor_4
def dkwX5_findDivisor_2 : List UInt8 := [42, 180, 0, 44, 42, 180, 0, 32, 184, 0, 152, 3, 61, 28, 16, 24, 162, 0, 80, 42, 42, 180, 0, 35]
abbrev dktX5_findDivisor_2 : List UInt8 := dkwX5_findDivisor_2 ++ dktX5_findDivisor_3
def dkwX5_findDivisor_1 : List UInt8 := [180, 0, 32, 42, 180, 0, 35, 184, 0, 152, 42, 180, 0, 35, 42, 180, 0, 41, 184, 0, 152, 167, 255, 211]
abbrev dktX5_findDivisor_1 : List UInt8 := dkwX5_findDivisor_1 ++ dktX5_findDivisor_2
def dkwX5_findDivisor_0 : List UInt8 := [42, 180, 0, 35, 184, 0, 112, 154, 0, 41, 42, 42, 180, 0, 32, 42, 180, 0, 35, 27, 182, 0, 159, 42]
abbrev dktX5_findDivisor_0 : List UInt8 := dkwX5_findDivisor_0 ++ dktX5_findDivisor_1
theorem dksX5_findDivisor_0 : cX5_findDivisor.data.toList.drop 0 = dktX5_findDivisor_0 := by decide +kernel
theorem dksX5_findDivisor_1 : cX5_findDivisor.data.toList.drop 24 = dktX5_findDivisor_1 := dk_seg dksX5_findDivisor_0 24 rfl rfl
theorem dksX5_findDivisor_2 : cX5_findDivisor.data.toList.drop 48 = dktX5_findDivisor_2 := dk_seg dksX5_findDivisor_1 24 rfl rfl
theorem dksX5_findDivisor_3 : cX5_findDivisor.data.toList.drop 72 = dktX5_findDivisor_3 := dk_seg dksX5_findDivisor_2 24 rfl rfl
theorem dksX5_findDivisor_4 : cX5_findDivisor.data.toList.drop 95 = dktX5_findDivisor_4 := dk_seg dksX5_findDivisor_3 23 rfl rfl
theorem dksX5_findDivisor_5 : cX5_findDivisor.data.toList.drop 118 = dktX5_findDivisor_5 := dk_seg dksX5_findDivisor_4 23 rfl rfl
theorem dksX5_findDivisor_6 : cX5_findDivisor.data.toList.drop 141 = dktX5_findDivisor_6 := dk_seg dksX5_findDivisor_5 23 rfl rfl
theorem dX5_findDivisor_0 : decode cX5_findDivisor 0 = .ok (.aload_n 0, 1) := dk_42 (dk_at dksX5_findDivisor_0 0 rfl rfl)
theorem dX5_findDivisor_1 : decode cX5_findDivisor 1 = .ok (.getfield 35, 3) := dk_180 0 35 (dk_at dksX5_findDivisor_0 1 rfl rfl)
theorem dX5_findDivisor_4 : decode cX5_findDivisor 4 = .ok (.invokestatic 112, 3) := dk_184 0 112 (dk_at dksX5_findDivisor_0 4 rfl rfl)
theorem dX5_findDivisor_7 : decode cX5_findDivisor 7 = .ok (.ifCond .ne 41, 3) := dk_154 0 41 (dk_at dksX5_findDivisor_0 7 rfl rfl)
theorem dX5_findDivisor_10 : decode cX5_findDivisor 10 = .ok (.aload_n 0, 1) := dk_42 (dk_at dksX5_findDivisor_0 10 rfl rfl)
theorem dX5_findDivisor_11 : decode cX5_findDivisor 11 = .ok (.aload_n 0, 1) := dk_42 (dk_at dksX5_findDivisor_0 11 rfl rfl)
theorem dX5_findDivisor_12 : decode cX5_findDivisor 12 = .ok (.getfield 32, 3) := dk_180 0 32 (dk_at dksX5_findDivisor_0 12 rfl rfl)
theorem dX5_findDivisor_15 : decode cX5_findDivisor 15 = .ok (.aload_n 0, 1) := dk_42 (dk_at dksX5_findDivisor_0 15 rfl rfl)
theorem dX5_findDivisor_16 : decode cX5_findDivisor 16 = .ok (.getfield 35, 3) := dk_180 0 35 (dk_at dksX5_findDivisor_0 16 rfl rfl)
theorem dX5_findDivisor_19 : decode cX5_findDivisor 19 = .ok (.iload_n 1, 1) := dk_27 (dk_at dksX5_findDivisor_0 19 rfl rfl)
theorem dX5_findDivisor_20 : decode cX5_findDivisor 20 = .ok (.invokevirtual 159, 3) := dk_182 0 159 (dk_at dksX5_findDivisor_0 20 rfl rfl)
theorem dX5_findDivisor_23 : decode cX5_findDivisor 23 = .ok (.aload_n 0, 1) := dk_42 (dk_at dksX5_findDivisor_0 23 rfl rfl)
theorem dX5_findDivisor_24 : decode cX5_findDivisor 24 = .ok (.getfield 32, 3) := dk_180 0 32 (dk_at dksX5_findDivisor_1 0 rfl rfl)
theorem dX5_findDivisor_27 : decode cX5_findDivisor 27 = .ok (.aload_n 0, 1) := dk_42 (dk_at dksX5_findDivisor_1 3 rfl rfl)
theorem dX5_findDivisor_28 : decode cX5_findDivisor 28 = .ok (.getfield 35, 3) := dk_180 0 35 (dk_at dksX5_findDivisor_1 4 rfl rfl)
theorem dX5_findDivisor_31 : decode cX5_findDivisor 31 = .ok (.invokestatic 152, 3) := dk_184 0 152 (dk_at dksX5_findDivisor_1 7 rfl rfl)
theorem dX5_findDivisor_34 : decode cX5_findDivisor 34 = .ok (.aload_n 0, 1) := dk_42 (dk_at dksX5_findDivisor_1 10 rfl rfl)
theorem dX5_findDivisor_35 : decode cX5_findDivisor 35 = .ok (.getfield 35, 3) := dk_180 0 35 (dk_at dksX5_findDivisor_1 11 rfl rfl)
theorem dX5_findDivisor_38 : decode cX5_findDivisor 38 = .ok (.aload_n 0, 1) := dk_42 (dk_at dksX5_findDivisor_1 14 rfl rfl)
theorem dX5_findDivisor_39 : decode cX5_findDivisor 39 = .ok (.getfield 41, 3) := dk_180 0 41 (dk_at dksX5_findDivisor_1 15 rfl rfl)
theorem dX5_findDivisor_42 : decode cX5_findDivisor 42 = .ok (.invokestatic 152, 3) := dk_184 0 152 (dk_at dksX5_findDivisor_1 18 rfl rfl)
theorem dX5_findDivisor_45 : decode cX5_findDivisor 45 = .ok (.goto (-45), 3) := dk_167 255 211 (dk_at dksX5_findDivisor_1 21 rfl rfl)
theorem dX5_findDivisor_48 : decode cX5_findDivisor 48 = .ok (.aload_n 0, 1) := dk_42 (dk_at dksX5_findDivisor_2 0 rfl rfl)
theorem dX5_findDivisor_49 : decode cX5_findDivisor 49 = .ok (.getfield 44, 3) := dk_180 0 44 (dk_at dksX5_findDivisor_2 1 rfl rfl)
theorem dX5_findDivisor_52 : decode cX5_findDivisor 52 = .ok (.aload_n 0, 1) := dk_42 (dk_at dksX5_findDivisor_2 4 rfl rfl)
theorem dX5_findDivisor_53 : decode cX5_findDivisor 53 = .ok (.getfield 32, 3) := dk_180 0 32 (dk_at dksX5_findDivisor_2 5 rfl rfl)
theorem dX5_findDivisor_56 : decode cX5_findDivisor 56 = .ok (.invokestatic 152, 3) := dk_184 0 152 (dk_at dksX5_findDivisor_2 8 rfl rfl)
theorem dX5_findDivisor_59 : decode cX5_findDivisor 59 = .ok (.iconst 0, 1) := dk_3 (dk_at dksX5_findDivisor_2 11 rfl rfl)
theorem dX5_findDivisor_60 : decode cX5_findDivisor 60 = .ok (.istore_n 2, 1) := dk_61 (dk_at dksX5_findDivisor_2 12 rfl rfl)
theorem dX5_findDivisor_61 : decode cX5_findDivisor 61 = .ok (.iload_n 2, 1) := dk_28 (dk_at dksX5_findDivisor_2 13 rfl rfl)
theorem dX5_findDivisor_62 : decode cX5_findDivisor 62 = .ok (.bipush 24, 2) := dk_16 24 (dk_at dksX5_findDivisor_2 14 rfl rfl)
theorem dX5_findDivisor_64 : decode cX5_findDivisor 64 = .ok (.if_icmp .ge 80, 3) := dk_162 0 80 (dk_at dksX5_findDivisor_2 16 rfl rfl)
theorem dX5_findDivisor_67 : decode cX5_findDivisor 67 = .ok (.aload_n 0, 1) := dk_42 (dk_at dksX5_findDivisor_2 19 rfl rfl)
theorem dX5_findDivisor_68 : decode cX5_findDivisor 68 = .ok (.aload_n 0, 1) := dk_42 (dk_at dksX5_findDivisor_2 20 rfl rfl)
theorem dX5_findDivisor_69 : decode cX5_findDivisor 69 = .ok (.getfield 35, 3) := dk_180 0 35 (dk_at dksX5_findDivisor_2 21 rfl rfl)
theorem dX5_findDivisor_72 : decode cX5_findDivisor 72 = .ok (.iload_n 2, 1) := dk_28 (dk_at dksX5_findDivisor_3 0 rfl rfl)
theorem dX5_findDivisor_73 : decode cX5_findDivisor 73 = .ok (.invokevirtual 149, 3) := dk_182 0 149 (dk_at dksX5_findDivisor_3 1 rfl rfl)
theorem dX5_findDivisor_76 : decode cX5_findDivisor 76 = .ok (.iload_n 1, 1) := dk_27 (dk_at dksX5_findDivisor_3 4 rfl rfl)
theorem dX5_findDivisor_77 : decode cX5_findDivisor 77 = .ok (.ifCond .ne 21, 3) := dk_154 0 21 (dk_at dksX5_findDivisor_3 5 rfl rfl)
theorem dX5_findDivisor_80 : decode cX5_findDivisor 80 = .ok (.aload_n 0, 1) := dk_42 (dk_at dksX5_findDivisor_3 8 rfl rfl)
theorem dX5_findDivisor_81 : decode cX5_findDivisor 81 = .ok (.getfield 38, 3) := dk_180 0 38 (dk_at dksX5_findDivisor_3 9 rfl rfl)
theorem dX5_findDivisor_84 : decode cX5_findDivisor 84 = .ok (.aload_n 0, 1) := dk_42 (dk_at dksX5_findDivisor_3 12 rfl rfl)
theorem dX5_findDivisor_85 : decode cX5_findDivisor 85 = .ok (.getfield 35, 3) := dk_180 0 35 (dk_at dksX5_findDivisor_3 13 rfl rfl)
theorem dX5_findDivisor_88 : decode cX5_findDivisor 88 = .ok (.aload_n 0, 1) := dk_42 (dk_at dksX5_findDivisor_3 16 rfl rfl)
theorem dX5_findDivisor_89 : decode cX5_findDivisor 89 = .ok (.getfield 32, 3) := dk_180 0 32 (dk_at dksX5_findDivisor_3 17 rfl rfl)
theorem dX5_findDivisor_92 : decode cX5_findDivisor 92 = .ok (.invokestatic 143, 3) := dk_184 0 143 (dk_at dksX5_findDivisor_3 20 rfl rfl)
theorem dX5_findDivisor_95 : decode cX5_findDivisor 95 = .ok (.goto 18, 3) := dk_167 0 18 (dk_at dksX5_findDivisor_4 0 rfl rfl)
theorem dX5_findDivisor_98 : decode cX5_findDivisor 98 = .ok (.aload_n 0, 1) := dk_42 (dk_at dksX5_findDivisor_4 3 rfl rfl)
theorem dX5_findDivisor_99 : decode cX5_findDivisor 99 = .ok (.getfield 38, 3) := dk_180 0 38 (dk_at dksX5_findDivisor_4 4 rfl rfl)
theorem dX5_findDivisor_102 : decode cX5_findDivisor 102 = .ok (.aload_n 0, 1) := dk_42 (dk_at dksX5_findDivisor_4 7 rfl rfl)
theorem dX5_findDivisor_103 : decode cX5_findDivisor 103 = .ok (.getfield 32, 3) := dk_180 0 32 (dk_at dksX5_findDivisor_4 8 rfl rfl)
theorem dX5_findDivisor_106 : decode cX5_findDivisor 106 = .ok (.aload_n 0, 1) := dk_42 (dk_at dksX5_findDivisor_4 11 rfl rfl)
theorem dX5_findDivisor_107 : decode cX5_findDivisor 107 = .ok (.getfield 35, 3) := dk_180 0 35 (dk_at dksX5_findDivisor_4 12 rfl rfl)
theorem dX5_findDivisor_110 : decode cX5_findDivisor 110 = .ok (.invokestatic 143, 3) := dk_184 0 143 (dk_at dksX5_findDivisor_4 15 rfl rfl)
theorem dX5_findDivisor_113 : decode cX5_findDivisor 113 = .ok (.aload_n 0, 1) := dk_42 (dk_at dksX5_findDivisor_4 18 rfl rfl)
theorem dX5_findDivisor_114 : decode cX5_findDivisor 114 = .ok (.getfield 38, 3) := dk_180 0 38 (dk_at dksX5_findDivisor_4 19 rfl rfl)
theorem dX5_findDivisor_117 : decode cX5_findDivisor 117 = .ok (.aload_n 0, 1) := dk_42 (dk_at dksX5_findDivisor_4 22 rfl rfl)
theorem dX5_findDivisor_118 : decode cX5_findDivisor 118 = .ok (.getfield 44, 3) := dk_180 0 44 (dk_at dksX5_findDivisor_5 0 rfl rfl)
theorem dX5_findDivisor_121 : decode cX5_findDivisor 121 = .ok (.invokestatic 163, 3) := dk_184 0 163 (dk_at dksX5_findDivisor_5 3 rfl rfl)
theorem dX5_findDivisor_124 : decode cX5_findDivisor 124 = .ok (.ifCond .eq 14, 3) := dk_153 0 14 (dk_at dksX5_findDivisor_5 6 rfl rfl)
theorem dX5_findDivisor_127 : decode cX5_findDivisor 127 = .ok (.aload_n 0, 1) := dk_42 (dk_at dksX5_findDivisor_5 9 rfl rfl)
theorem dX5_findDivisor_128 : decode cX5_findDivisor 128 = .ok (.getfield 44, 3) := dk_180 0 44 (dk_at dksX5_findDivisor_5 10 rfl rfl)
theorem dX5_findDivisor_131 : decode cX5_findDivisor 131 = .ok (.aload_n 0, 1) := dk_42 (dk_at dksX5_findDivisor_5 13 rfl rfl)
theorem dX5_findDivisor_132 : decode cX5_findDivisor 132 = .ok (.getfield 38, 3) := dk_180 0 38 (dk_at dksX5_findDivisor_5 14 rfl rfl)
theorem dX5_findDivisor_135 : decode cX5_findDivisor 135 = .ok (.invokestatic 152, 3) := dk_184 0 152 (dk_at dksX5_findDivisor_5 17 rfl rfl)
theorem dX5_findDivisor_138 : decode cX5_findDivisor 138 = .ok (.iinc 2 1, 3) := dk_132 2 1 (dk_at dksX5_findDivisor_5 20 rfl rfl)
theorem dX5_findDivisor_141 : decode cX5_findDivisor 141 = .ok (.goto (-80), 3) := dk_167 255 176 (dk_at dksX5_findDivisor_6 0 rfl rfl)
theorem dX5_findDivisor_144 : decode cX5_findDivisor 144 = .ok (.return_, 1) := dk_177 (dk_at dksX5_findDivisor_6 3 rfl rfl)
abbrev cX5_isGreater : ByteArray := prog_9_method_24_code
def yX5_isGreater : MethodName := ⟨RX5, "isGreater", "([J[J)Z"⟩
def dkwX5_isGreater_1 : List UInt8 := [158, 0, 7, 4, 167, 0, 4, 3, 172, 132, 2, 1, 167, 255, 222, 3, 172]
abbrev dktX5_isGreater_1 : List UInt8 := dkwX5_isGreater_1 ++ []
def dkwX5_isGreater_0 : List UInt8 := [3, 61, 28, 7, 162, 0, 35, 42, 28, 47, 43, 28, 47, 148, 153, 0, 19, 42, 28, 47, 43, 28, 47, 148]
abbrev dktX5_isGreater_0 : List UInt8 := dkwX5_isGreater_0 ++ dktX5_isGreater_1
theorem dksX5_isGreater_0 : cX5_isGreater.data.toList.drop 0 = dktX5_isGreater_0 := by decide +kernel
theorem dksX5_isGreater_1 : cX5_isGreater.data.toList.drop 24 = dktX5_isGreater_1 := dk_seg dksX5_isGreater_0 24 rfl rfl
theorem dX5_isGreater_0 : decode cX5_isGreater 0 = .ok (.iconst 0, 1) := dk_3 (dk_at dksX5_isGreater_0 0 rfl rfl)
theorem dX5_isGreater_1 : decode cX5_isGreater 1 = .ok (.istore_n 2, 1) := dk_61 (dk_at dksX5_isGreater_0 1 rfl rfl)
theorem dX5_isGreater_2 : decode cX5_isGreater 2 = .ok (.iload_n 2, 1) := dk_28 (dk_at dksX5_isGreater_0 2 rfl rfl)
theorem dX5_isGreater_3 : decode cX5_isGreater 3 = .ok (.iconst 4, 1) := dk_7 (dk_at dksX5_isGreater_0 3 rfl rfl)
theorem dX5_isGreater_4 : decode cX5_isGreater 4 = .ok (.if_icmp .ge 35, 3) := dk_162 0 35 (dk_at dksX5_isGreater_0 4 rfl rfl)
theorem dX5_isGreater_7 : decode cX5_isGreater 7 = .ok (.aload_n 0, 1) := dk_42 (dk_at dksX5_isGreater_0 7 rfl rfl)
theorem dX5_isGreater_8 : decode cX5_isGreater 8 = .ok (.iload_n 2, 1) := dk_28 (dk_at dksX5_isGreater_0 8 rfl rfl)
theorem dX5_isGreater_9 : decode cX5_isGreater 9 = .ok (.laload, 1) := dk_47 (dk_at dksX5_isGreater_0 9 rfl rfl)
theorem dX5_isGreater_10 : decode cX5_isGreater 10 = .ok (.aload_n 1, 1) := dk_43 (dk_at dksX5_isGreater_0 10 rfl rfl)
theorem dX5_isGreater_11 : decode cX5_isGreater 11 = .ok (.iload_n 2, 1) := dk_28 (dk_at dksX5_isGreater_0 11 rfl rfl)
theorem dX5_isGreater_12 : decode cX5_isGreater 12 = .ok (.laload, 1) := dk_47 (dk_at dksX5_isGreater_0 12 rfl rfl)
theorem dX5_isGreater_13 : decode cX5_isGreater 13 = .ok (.lcmp, 1) := dk_148 (dk_at dksX5_isGreater_0 13 rfl rfl)
theorem dX5_isGreater_14 : decode cX5_isGreater 14 = .ok (.ifCond .eq 19, 3) := dk_153 0 19 (dk_at dksX5_isGreater_0 14 rfl rfl)
theorem dX5_isGreater_17 : decode cX5_isGreater 17 = .ok (.aload_n 0, 1) := dk_42 (dk_at dksX5_isGreater_0 17 rfl rfl)
theorem dX5_isGreater_18 : decode cX5_isGreater 18 = .ok (.iload_n 2, 1) := dk_28 (dk_at dksX5_isGreater_0 18 rfl rfl)
theorem dX5_isGreater_19 : decode cX5_isGreater 19 = .ok (.laload, 1) := dk_47 (dk_at dksX5_isGreater_0 19 rfl rfl)
theorem dX5_isGreater_20 : decode cX5_isGreater 20 = .ok (.aload_n 1, 1) := dk_43 (dk_at dksX5_isGreater_0 20 rfl rfl)
theorem dX5_isGreater_21 : decode cX5_isGreater 21 = .ok (.iload_n 2, 1) := dk_28 (dk_at dksX5_isGreater_0 21 rfl rfl)
theorem dX5_isGreater_22 : decode cX5_isGreater 22 = .ok (.laload, 1) := dk_47 (dk_at dksX5_isGreater_0 22 rfl rfl)
theorem dX5_isGreater_23 : decode cX5_isGreater 23 = .ok (.lcmp, 1) := dk_148 (dk_at dksX5_isGreater_0 23 rfl rfl)
theorem dX5_isGreater_24 : decode cX5_isGreater 24 = .ok (.ifCond .le 7, 3) := dk_158 0 7 (dk_at dksX5_isGreater_1 0 rfl rfl)
theorem dX5_isGreater_27 : decode cX5_isGreater 27 = .ok (.iconst 1, 1) := dk_4 (dk_at dksX5_isGreater_1 3 rfl rfl)
theorem dX5_isGreater_28 : decode cX5_isGreater 28 = .ok (.goto 4, 3) := dk_167 0 4 (dk_at dksX5_isGreater_1 4 rfl rfl)
theorem dX5_isGreater_31 : decode cX5_isGreater 31 = .ok (.iconst 0, 1) := dk_3 (dk_at dksX5_isGreater_1 7 rfl rfl)
theorem dX5_isGreater_32 : decode cX5_isGreater 32 = .ok (.ireturn, 1) := dk_172 (dk_at dksX5_isGreater_1 8 rfl rfl)
theorem dX5_isGreater_33 : decode cX5_isGreater 33 = .ok (.iinc 2 1, 3) := dk_132 2 1 (dk_at dksX5_isGreater_1 9 rfl rfl)
theorem dX5_isGreater_36 : decode cX5_isGreater 36 = .ok (.goto (-34), 3) := dk_167 255 222 (dk_at dksX5_isGreater_1 12 rfl rfl)
theorem dX5_isGreater_39 : decode cX5_isGreater 39 = .ok (.iconst 0, 1) := dk_3 (dk_at dksX5_isGreater_1 15 rfl rfl)
theorem dX5_isGreater_40 : decode cX5_isGreater 40 = .ok (.ireturn, 1) := dk_172 (dk_at dksX5_isGreater_1 16 rfl rfl)
abbrev cX5_like : ByteArray := prog_9_method_38_code
def yX5_like : MethodName := ⟨RX5, "like", "(III)I"⟩
def dkwX5_like_5 : List UInt8 := [21, 4, 172, 132, 4, 1, 167, 255, 181, 16, 252, 172]
abbrev dktX5_like_5 : List UInt8 := dkwX5_like_5 ++ []
def dkwX5_like_4 : List UInt8 := [180, 0, 32, 42, 180, 0, 35, 184, 0, 143, 42, 180, 0, 38, 42, 180, 0, 44, 184, 0, 171, 153, 0, 6]
abbrev dktX5_like_4 : List UInt8 := dkwX5_like_4 ++ dktX5_like_5
def dkwX5_like_3 : List UInt8 := [180, 0, 38, 42, 180, 0, 35, 42, 180, 0, 32, 184, 0, 143, 167, 0, 18, 42, 180, 0, 38, 42]
abbrev dktX5_like_3 : List UInt8 := dkwX5_like_3 ++ dktX5_like_4
def dkwX5_like_2 : List UInt8 := [21, 4, 16, 24, 162, 0, 74, 42, 42, 180, 0, 35, 21, 4, 182, 0, 149, 29, 4, 160, 0, 21, 42]
abbrev dktX5_like_2 : List UInt8 := dkwX5_like_2 ++ dktX5_like_3
def dkwX5_like_1 : List UInt8 := [2, 172, 42, 42, 180, 0, 32, 27, 182, 0, 122, 42, 42, 180, 0, 44, 28, 182, 0, 122, 3, 54, 4]
abbrev dktX5_like_1 : List UInt8 := dkwX5_like_1 ++ dktX5_like_2
def dkwX5_like_0 : List UInt8 := [27, 184, 0, 91, 153, 0, 20, 28, 184, 0, 91, 153, 0, 13, 29, 133, 9, 10, 184, 0, 65, 154, 0, 5]
abbrev dktX5_like_0 : List UInt8 := dkwX5_like_0 ++ dktX5_like_1
theorem dksX5_like_0 : cX5_like.data.toList.drop 0 = dktX5_like_0 := by decide +kernel
theorem dksX5_like_1 : cX5_like.data.toList.drop 24 = dktX5_like_1 := dk_seg dksX5_like_0 24 rfl rfl
theorem dksX5_like_2 : cX5_like.data.toList.drop 47 = dktX5_like_2 := dk_seg dksX5_like_1 23 rfl rfl
theorem dksX5_like_3 : cX5_like.data.toList.drop 70 = dktX5_like_3 := dk_seg dksX5_like_2 23 rfl rfl
theorem dksX5_like_4 : cX5_like.data.toList.drop 92 = dktX5_like_4 := dk_seg dksX5_like_3 22 rfl rfl
theorem dksX5_like_5 : cX5_like.data.toList.drop 116 = dktX5_like_5 := dk_seg dksX5_like_4 24 rfl rfl
theorem dX5_like_0 : decode cX5_like 0 = .ok (.iload_n 1, 1) := dk_27 (dk_at dksX5_like_0 0 rfl rfl)
theorem dX5_like_1 : decode cX5_like 1 = .ok (.invokestatic 91, 3) := dk_184 0 91 (dk_at dksX5_like_0 1 rfl rfl)
theorem dX5_like_4 : decode cX5_like 4 = .ok (.ifCond .eq 20, 3) := dk_153 0 20 (dk_at dksX5_like_0 4 rfl rfl)
theorem dX5_like_7 : decode cX5_like 7 = .ok (.iload_n 2, 1) := dk_28 (dk_at dksX5_like_0 7 rfl rfl)
theorem dX5_like_8 : decode cX5_like 8 = .ok (.invokestatic 91, 3) := dk_184 0 91 (dk_at dksX5_like_0 8 rfl rfl)
theorem dX5_like_11 : decode cX5_like 11 = .ok (.ifCond .eq 13, 3) := dk_153 0 13 (dk_at dksX5_like_0 11 rfl rfl)
theorem dX5_like_14 : decode cX5_like 14 = .ok (.iload_n 3, 1) := dk_29 (dk_at dksX5_like_0 14 rfl rfl)
theorem dX5_like_15 : decode cX5_like 15 = .ok (.i2l, 1) := dk_133 (dk_at dksX5_like_0 15 rfl rfl)
theorem dX5_like_16 : decode cX5_like 16 = .ok (.lconst 0, 1) := dk_9 (dk_at dksX5_like_0 16 rfl rfl)
theorem dX5_like_17 : decode cX5_like 17 = .ok (.lconst 1, 1) := dk_10 (dk_at dksX5_like_0 17 rfl rfl)
theorem dX5_like_18 : decode cX5_like 18 = .ok (.invokestatic 65, 3) := dk_184 0 65 (dk_at dksX5_like_0 18 rfl rfl)
theorem dX5_like_21 : decode cX5_like 21 = .ok (.ifCond .ne 5, 3) := dk_154 0 5 (dk_at dksX5_like_0 21 rfl rfl)
theorem dX5_like_24 : decode cX5_like 24 = .ok (.iconst (-1), 1) := dk_2 (dk_at dksX5_like_1 0 rfl rfl)
theorem dX5_like_25 : decode cX5_like 25 = .ok (.ireturn, 1) := dk_172 (dk_at dksX5_like_1 1 rfl rfl)
theorem dX5_like_26 : decode cX5_like 26 = .ok (.aload_n 0, 1) := dk_42 (dk_at dksX5_like_1 2 rfl rfl)
theorem dX5_like_27 : decode cX5_like 27 = .ok (.aload_n 0, 1) := dk_42 (dk_at dksX5_like_1 3 rfl rfl)
theorem dX5_like_28 : decode cX5_like 28 = .ok (.getfield 32, 3) := dk_180 0 32 (dk_at dksX5_like_1 4 rfl rfl)
theorem dX5_like_31 : decode cX5_like 31 = .ok (.iload_n 1, 1) := dk_27 (dk_at dksX5_like_1 7 rfl rfl)
theorem dX5_like_32 : decode cX5_like 32 = .ok (.invokevirtual 122, 3) := dk_182 0 122 (dk_at dksX5_like_1 8 rfl rfl)
theorem dX5_like_35 : decode cX5_like 35 = .ok (.aload_n 0, 1) := dk_42 (dk_at dksX5_like_1 11 rfl rfl)
theorem dX5_like_36 : decode cX5_like 36 = .ok (.aload_n 0, 1) := dk_42 (dk_at dksX5_like_1 12 rfl rfl)
theorem dX5_like_37 : decode cX5_like 37 = .ok (.getfield 44, 3) := dk_180 0 44 (dk_at dksX5_like_1 13 rfl rfl)
theorem dX5_like_40 : decode cX5_like 40 = .ok (.iload_n 2, 1) := dk_28 (dk_at dksX5_like_1 16 rfl rfl)
theorem dX5_like_41 : decode cX5_like 41 = .ok (.invokevirtual 122, 3) := dk_182 0 122 (dk_at dksX5_like_1 17 rfl rfl)
theorem dX5_like_44 : decode cX5_like 44 = .ok (.iconst 0, 1) := dk_3 (dk_at dksX5_like_1 20 rfl rfl)
theorem dX5_like_45 : decode cX5_like 45 = .ok (.istore 4, 2) := dk_54 4 (dk_at dksX5_like_1 21 rfl rfl)
theorem dX5_like_47 : decode cX5_like 47 = .ok (.iload 4, 2) := dk_21 4 (dk_at dksX5_like_2 0 rfl rfl)
theorem dX5_like_49 : decode cX5_like 49 = .ok (.bipush 24, 2) := dk_16 24 (dk_at dksX5_like_2 2 rfl rfl)
theorem dX5_like_51 : decode cX5_like 51 = .ok (.if_icmp .ge 74, 3) := dk_162 0 74 (dk_at dksX5_like_2 4 rfl rfl)
theorem dX5_like_54 : decode cX5_like 54 = .ok (.aload_n 0, 1) := dk_42 (dk_at dksX5_like_2 7 rfl rfl)
theorem dX5_like_55 : decode cX5_like 55 = .ok (.aload_n 0, 1) := dk_42 (dk_at dksX5_like_2 8 rfl rfl)
theorem dX5_like_56 : decode cX5_like 56 = .ok (.getfield 35, 3) := dk_180 0 35 (dk_at dksX5_like_2 9 rfl rfl)
theorem dX5_like_59 : decode cX5_like 59 = .ok (.iload 4, 2) := dk_21 4 (dk_at dksX5_like_2 12 rfl rfl)
theorem dX5_like_61 : decode cX5_like 61 = .ok (.invokevirtual 149, 3) := dk_182 0 149 (dk_at dksX5_like_2 14 rfl rfl)
theorem dX5_like_64 : decode cX5_like 64 = .ok (.iload_n 3, 1) := dk_29 (dk_at dksX5_like_2 17 rfl rfl)
theorem dX5_like_65 : decode cX5_like 65 = .ok (.iconst 1, 1) := dk_4 (dk_at dksX5_like_2 18 rfl rfl)
theorem dX5_like_66 : decode cX5_like 66 = .ok (.if_icmp .ne 21, 3) := dk_160 0 21 (dk_at dksX5_like_2 19 rfl rfl)
theorem dX5_like_69 : decode cX5_like 69 = .ok (.aload_n 0, 1) := dk_42 (dk_at dksX5_like_2 22 rfl rfl)
theorem dX5_like_70 : decode cX5_like 70 = .ok (.getfield 38, 3) := dk_180 0 38 (dk_at dksX5_like_3 0 rfl rfl)
theorem dX5_like_73 : decode cX5_like 73 = .ok (.aload_n 0, 1) := dk_42 (dk_at dksX5_like_3 3 rfl rfl)
theorem dX5_like_74 : decode cX5_like 74 = .ok (.getfield 35, 3) := dk_180 0 35 (dk_at dksX5_like_3 4 rfl rfl)
theorem dX5_like_77 : decode cX5_like 77 = .ok (.aload_n 0, 1) := dk_42 (dk_at dksX5_like_3 7 rfl rfl)
theorem dX5_like_78 : decode cX5_like 78 = .ok (.getfield 32, 3) := dk_180 0 32 (dk_at dksX5_like_3 8 rfl rfl)
theorem dX5_like_81 : decode cX5_like 81 = .ok (.invokestatic 143, 3) := dk_184 0 143 (dk_at dksX5_like_3 11 rfl rfl)
theorem dX5_like_84 : decode cX5_like 84 = .ok (.goto 18, 3) := dk_167 0 18 (dk_at dksX5_like_3 14 rfl rfl)
theorem dX5_like_87 : decode cX5_like 87 = .ok (.aload_n 0, 1) := dk_42 (dk_at dksX5_like_3 17 rfl rfl)
theorem dX5_like_88 : decode cX5_like 88 = .ok (.getfield 38, 3) := dk_180 0 38 (dk_at dksX5_like_3 18 rfl rfl)
theorem dX5_like_91 : decode cX5_like 91 = .ok (.aload_n 0, 1) := dk_42 (dk_at dksX5_like_3 21 rfl rfl)
theorem dX5_like_92 : decode cX5_like 92 = .ok (.getfield 32, 3) := dk_180 0 32 (dk_at dksX5_like_4 0 rfl rfl)
theorem dX5_like_95 : decode cX5_like 95 = .ok (.aload_n 0, 1) := dk_42 (dk_at dksX5_like_4 3 rfl rfl)
theorem dX5_like_96 : decode cX5_like 96 = .ok (.getfield 35, 3) := dk_180 0 35 (dk_at dksX5_like_4 4 rfl rfl)
theorem dX5_like_99 : decode cX5_like 99 = .ok (.invokestatic 143, 3) := dk_184 0 143 (dk_at dksX5_like_4 7 rfl rfl)
theorem dX5_like_102 : decode cX5_like 102 = .ok (.aload_n 0, 1) := dk_42 (dk_at dksX5_like_4 10 rfl rfl)
theorem dX5_like_103 : decode cX5_like 103 = .ok (.getfield 38, 3) := dk_180 0 38 (dk_at dksX5_like_4 11 rfl rfl)
theorem dX5_like_106 : decode cX5_like 106 = .ok (.aload_n 0, 1) := dk_42 (dk_at dksX5_like_4 14 rfl rfl)
theorem dX5_like_107 : decode cX5_like 107 = .ok (.getfield 44, 3) := dk_180 0 44 (dk_at dksX5_like_4 15 rfl rfl)
theorem dX5_like_110 : decode cX5_like 110 = .ok (.invokestatic 171, 3) := dk_184 0 171 (dk_at dksX5_like_4 18 rfl rfl)
theorem dX5_like_113 : decode cX5_like 113 = .ok (.ifCond .eq 6, 3) := dk_153 0 6 (dk_at dksX5_like_4 21 rfl rfl)
theorem dX5_like_116 : decode cX5_like 116 = .ok (.iload 4, 2) := dk_21 4 (dk_at dksX5_like_5 0 rfl rfl)
theorem dX5_like_118 : decode cX5_like 118 = .ok (.ireturn, 1) := dk_172 (dk_at dksX5_like_5 2 rfl rfl)
theorem dX5_like_119 : decode cX5_like 119 = .ok (.iinc 4 1, 3) := dk_132 4 1 (dk_at dksX5_like_5 3 rfl rfl)
theorem dX5_like_122 : decode cX5_like 122 = .ok (.goto (-75), 3) := dk_167 255 181 (dk_at dksX5_like_5 6 rfl rfl)
theorem dX5_like_125 : decode cX5_like 125 = .ok (.bipush (-4), 2) := dk_16 252 (dk_at dksX5_like_5 9 rfl rfl)
theorem dX5_like_127 : decode cX5_like 127 = .ok (.ireturn, 1) := dk_172 (dk_at dksX5_like_5 11 rfl rfl)
abbrev cX5_isSame : ByteArray := prog_9_method_25_code
def yX5_isSame : MethodName := ⟨RX5, "isSame", "([J[J)Z"⟩
def dkwX5_isSame_1 : List UInt8 := [5, 47, 148, 154, 0, 17, 42, 6, 47, 43, 6, 47, 148, 154, 0, 7, 4, 167, 0, 4, 3, 172]
abbrev dktX5_isSame_1 : List UInt8 := dkwX5_isSame_1 ++ []
def dkwX5_isSame_0 : List UInt8 := [42, 3, 47, 43, 3, 47, 148, 154, 0, 37, 42, 4, 47, 43, 4, 47, 148, 154, 0, 27, 42, 5, 47, 43]
abbrev dktX5_isSame_0 : List UInt8 := dkwX5_isSame_0 ++ dktX5_isSame_1
theorem dksX5_isSame_0 : cX5_isSame.data.toList.drop 0 = dktX5_isSame_0 := by decide +kernel
theorem dksX5_isSame_1 : cX5_isSame.data.toList.drop 24 = dktX5_isSame_1 := dk_seg dksX5_isSame_0 24 rfl rfl
theorem dX5_isSame_0 : decode cX5_isSame 0 = .ok (.aload_n 0, 1) := dk_42 (dk_at dksX5_isSame_0 0 rfl rfl)
theorem dX5_isSame_1 : decode cX5_isSame 1 = .ok (.iconst 0, 1) := dk_3 (dk_at dksX5_isSame_0 1 rfl rfl)
theorem dX5_isSame_2 : decode cX5_isSame 2 = .ok (.laload, 1) := dk_47 (dk_at dksX5_isSame_0 2 rfl rfl)
theorem dX5_isSame_3 : decode cX5_isSame 3 = .ok (.aload_n 1, 1) := dk_43 (dk_at dksX5_isSame_0 3 rfl rfl)
theorem dX5_isSame_4 : decode cX5_isSame 4 = .ok (.iconst 0, 1) := dk_3 (dk_at dksX5_isSame_0 4 rfl rfl)
theorem dX5_isSame_5 : decode cX5_isSame 5 = .ok (.laload, 1) := dk_47 (dk_at dksX5_isSame_0 5 rfl rfl)
theorem dX5_isSame_6 : decode cX5_isSame 6 = .ok (.lcmp, 1) := dk_148 (dk_at dksX5_isSame_0 6 rfl rfl)
theorem dX5_isSame_7 : decode cX5_isSame 7 = .ok (.ifCond .ne 37, 3) := dk_154 0 37 (dk_at dksX5_isSame_0 7 rfl rfl)
theorem dX5_isSame_10 : decode cX5_isSame 10 = .ok (.aload_n 0, 1) := dk_42 (dk_at dksX5_isSame_0 10 rfl rfl)
theorem dX5_isSame_11 : decode cX5_isSame 11 = .ok (.iconst 1, 1) := dk_4 (dk_at dksX5_isSame_0 11 rfl rfl)
theorem dX5_isSame_12 : decode cX5_isSame 12 = .ok (.laload, 1) := dk_47 (dk_at dksX5_isSame_0 12 rfl rfl)
theorem dX5_isSame_13 : decode cX5_isSame 13 = .ok (.aload_n 1, 1) := dk_43 (dk_at dksX5_isSame_0 13 rfl rfl)
theorem dX5_isSame_14 : decode cX5_isSame 14 = .ok (.iconst 1, 1) := dk_4 (dk_at dksX5_isSame_0 14 rfl rfl)
theorem dX5_isSame_15 : decode cX5_isSame 15 = .ok (.laload, 1) := dk_47 (dk_at dksX5_isSame_0 15 rfl rfl)
theorem dX5_isSame_16 : decode cX5_isSame 16 = .ok (.lcmp, 1) := dk_148 (dk_at dksX5_isSame_0 16 rfl rfl)
theorem dX5_isSame_17 : decode cX5_isSame 17 = .ok (.ifCond .ne 27, 3) := dk_154 0 27 (dk_at dksX5_isSame_0 17 rfl rfl)
theorem dX5_isSame_20 : decode cX5_isSame 20 = .ok (.aload_n 0, 1) := dk_42 (dk_at dksX5_isSame_0 20 rfl rfl)
theorem dX5_isSame_21 : decode cX5_isSame 21 = .ok (.iconst 2, 1) := dk_5 (dk_at dksX5_isSame_0 21 rfl rfl)
theorem dX5_isSame_22 : decode cX5_isSame 22 = .ok (.laload, 1) := dk_47 (dk_at dksX5_isSame_0 22 rfl rfl)
theorem dX5_isSame_23 : decode cX5_isSame 23 = .ok (.aload_n 1, 1) := dk_43 (dk_at dksX5_isSame_0 23 rfl rfl)
theorem dX5_isSame_24 : decode cX5_isSame 24 = .ok (.iconst 2, 1) := dk_5 (dk_at dksX5_isSame_1 0 rfl rfl)
theorem dX5_isSame_25 : decode cX5_isSame 25 = .ok (.laload, 1) := dk_47 (dk_at dksX5_isSame_1 1 rfl rfl)
theorem dX5_isSame_26 : decode cX5_isSame 26 = .ok (.lcmp, 1) := dk_148 (dk_at dksX5_isSame_1 2 rfl rfl)
theorem dX5_isSame_27 : decode cX5_isSame 27 = .ok (.ifCond .ne 17, 3) := dk_154 0 17 (dk_at dksX5_isSame_1 3 rfl rfl)
theorem dX5_isSame_30 : decode cX5_isSame 30 = .ok (.aload_n 0, 1) := dk_42 (dk_at dksX5_isSame_1 6 rfl rfl)
theorem dX5_isSame_31 : decode cX5_isSame 31 = .ok (.iconst 3, 1) := dk_6 (dk_at dksX5_isSame_1 7 rfl rfl)
theorem dX5_isSame_32 : decode cX5_isSame 32 = .ok (.laload, 1) := dk_47 (dk_at dksX5_isSame_1 8 rfl rfl)
theorem dX5_isSame_33 : decode cX5_isSame 33 = .ok (.aload_n 1, 1) := dk_43 (dk_at dksX5_isSame_1 9 rfl rfl)
theorem dX5_isSame_34 : decode cX5_isSame 34 = .ok (.iconst 3, 1) := dk_6 (dk_at dksX5_isSame_1 10 rfl rfl)
theorem dX5_isSame_35 : decode cX5_isSame 35 = .ok (.laload, 1) := dk_47 (dk_at dksX5_isSame_1 11 rfl rfl)
theorem dX5_isSame_36 : decode cX5_isSame 36 = .ok (.lcmp, 1) := dk_148 (dk_at dksX5_isSame_1 12 rfl rfl)
theorem dX5_isSame_37 : decode cX5_isSame 37 = .ok (.ifCond .ne 7, 3) := dk_154 0 7 (dk_at dksX5_isSame_1 13 rfl rfl)
theorem dX5_isSame_40 : decode cX5_isSame 40 = .ok (.iconst 1, 1) := dk_4 (dk_at dksX5_isSame_1 16 rfl rfl)
theorem dX5_isSame_41 : decode cX5_isSame 41 = .ok (.goto 4, 3) := dk_167 0 4 (dk_at dksX5_isSame_1 17 rfl rfl)
theorem dX5_isSame_44 : decode cX5_isSame 44 = .ok (.iconst 0, 1) := dk_3 (dk_at dksX5_isSame_1 20 rfl rfl)
theorem dX5_isSame_45 : decode cX5_isSame 45 = .ok (.ireturn, 1) := dk_172 (dk_at dksX5_isSame_1 21 rfl rfl)
abbrev cX5_way : ByteArray := prog_9_method_40_code
def yX5_way : MethodName := ⟨RX5, "way", "(IIII)I"⟩
def dkwX5_way_17 : List UInt8 := [180, 0, 56, 21, 10, 47, 80, 132, 10, 1, 167, 255, 226, 42, 21, 4, 181, 0, 177, 21, 4, 172]
abbrev dktX5_way_17 : List UInt8 := dkwX5_way_17 ++ []
def dkwX5_way_16 : List UInt8 := [54, 10, 21, 10, 7, 162, 0, 30, 42, 180, 0, 26, 7, 21, 4, 104, 7, 100, 21, 10, 96, 42]
abbrev dktX5_way_16 : List UInt8 := dkwX5_way_16 ++ dktX5_way_17
def dkwX5_way_15 : List UInt8 := [180, 0, 38, 21, 13, 47, 22, 11, 109, 80, 132, 13, 1, 167, 255, 230, 132, 10, 1, 167, 255, 82, 3]
abbrev dktX5_way_15 : List UInt8 := dkwX5_way_15 ++ dktX5_way_16
def dkwX5_way_14 : List UInt8 := [42, 180, 0, 56, 184, 0, 143, 3, 54, 13, 21, 13, 7, 162, 0, 26, 42, 180, 0, 56, 21, 13, 42]
abbrev dktX5_way_14 : List UInt8 := dkwX5_way_14 ++ dktX5_way_15
def dkwX5_way_13 : List UInt8 := [42, 180, 0, 44, 184, 0, 126, 55, 11, 42, 180, 0, 44, 184, 0, 139, 42, 180, 0, 38, 42, 180, 0, 44]
abbrev dktX5_way_13 : List UInt8 := dkwX5_way_13 ++ dktX5_way_14
def dkwX5_way_12 : List UInt8 := [180, 0, 26, 7, 21, 10, 104, 21, 11, 96, 42, 180, 0, 44, 21, 11, 47, 80, 132, 11, 1, 167, 255, 228]
abbrev dktX5_way_12 : List UInt8 := dkwX5_way_12 ++ dktX5_way_13
def dkwX5_way_11 : List UInt8 := [42, 180, 0, 56, 184, 0, 152, 42, 4, 182, 0, 167, 3, 54, 11, 21, 11, 7, 162, 0, 28, 42]
abbrev dktX5_way_11 : List UInt8 := dkwX5_way_11 ++ dktX5_way_12
def dkwX5_way_10 : List UInt8 := [28, 104, 29, 96, 21, 10, 96, 47, 105, 167, 0, 4, 9, 80, 132, 11, 1, 167, 255, 213, 42, 180, 0, 35]
abbrev dktX5_way_10 : List UInt8 := dkwX5_way_10 ++ dktX5_way_11
def dkwX5_way_9 : List UInt8 := [7, 162, 0, 43, 42, 180, 0, 32, 21, 11, 21, 11, 154, 0, 24, 20, 0, 77, 42, 180, 0, 16, 16, 16]
abbrev dktX5_way_9 : List UInt8 := dkwX5_way_9 ++ dktX5_way_10
def dkwX5_way_8 : List UInt8 := [148, 153, 0, 6, 16, 254, 172, 3, 54, 10, 21, 10, 21, 4, 4, 100, 162, 0, 171, 3, 54, 11, 21, 11]
abbrev dktX5_way_8 : List UInt8 := dkwX5_way_8 ++ dktX5_way_9
def dkwX5_way_7 : List UInt8 := [22, 11, 167, 0, 4, 10, 105, 55, 7, 132, 10, 1, 167, 255, 175, 21, 9, 153, 0, 11, 22, 7, 22, 5]
abbrev dktX5_way_7 : List UInt8 := dkwX5_way_7 ++ dktX5_way_8
def dkwX5_way_6 : List UInt8 := [22, 11, 105, 22, 5, 148, 157, 0, 7, 4, 167, 0, 4, 3, 54, 9, 22, 7, 21, 9, 153, 0, 8]
abbrev dktX5_way_6 : List UInt8 := dkwX5_way_6 ++ dktX5_way_7
def dkwX5_way_5 : List UInt8 := [21, 10, 96, 47, 55, 11, 22, 11, 22, 5, 148, 157, 0, 26, 22, 11, 184, 0, 174, 153, 0, 18, 22, 7]
abbrev dktX5_way_5 : List UInt8 := dkwX5_way_5 ++ dktX5_way_6
def dkwX5_way_4 : List UInt8 := [54, 10, 21, 10, 21, 4, 162, 0, 80, 21, 9, 153, 0, 75, 42, 180, 0, 16, 16, 16, 28, 104, 29, 96]
abbrev dktX5_way_4 : List UInt8 := dkwX5_way_4 ++ dktX5_way_5
def dkwX5_way_3 : List UInt8 := [42, 180, 0, 56, 184, 0, 126, 55, 5, 10, 55, 7, 42, 42, 180, 0, 56, 182, 0, 130, 54, 9, 3]
abbrev dktX5_way_3 : List UInt8 := dkwX5_way_3 ++ dktX5_way_4
def dkwX5_way_2 : List UInt8 := [172, 42, 28, 29, 21, 4, 182, 0, 79, 153, 0, 6, 16, 244, 172, 42, 42, 180, 0, 56, 27, 182, 0, 122]
abbrev dktX5_way_2 : List UInt8 := dkwX5_way_2 ++ dktX5_way_3
def dkwX5_way_1 : List UInt8 := [164, 0, 5, 2, 172, 42, 180, 0, 7, 28, 46, 156, 0, 6, 16, 245, 172, 21, 4, 156, 0, 6, 16, 243]
abbrev dktX5_way_1 : List UInt8 := dkwX5_way_1 ++ dktX5_way_2
def dkwX5_way_0 : List UInt8 := [27, 184, 0, 91, 153, 0, 22, 28, 184, 0, 71, 153, 0, 15, 21, 4, 153, 0, 10, 21, 4, 16, 12]
abbrev dktX5_way_0 : List UInt8 := dkwX5_way_0 ++ dktX5_way_1
theorem dksX5_way_0 : cX5_way.data.toList.drop 0 = dktX5_way_0 := by decide +kernel
theorem dksX5_way_1 : cX5_way.data.toList.drop 23 = dktX5_way_1 := dk_seg dksX5_way_0 23 rfl rfl
theorem dksX5_way_2 : cX5_way.data.toList.drop 47 = dktX5_way_2 := dk_seg dksX5_way_1 24 rfl rfl
theorem dksX5_way_3 : cX5_way.data.toList.drop 71 = dktX5_way_3 := dk_seg dksX5_way_2 24 rfl rfl
theorem dksX5_way_4 : cX5_way.data.toList.drop 94 = dktX5_way_4 := dk_seg dksX5_way_3 23 rfl rfl
theorem dksX5_way_5 : cX5_way.data.toList.drop 118 = dktX5_way_5 := dk_seg dksX5_way_4 24 rfl rfl
theorem dksX5_way_6 : cX5_way.data.toList.drop 142 = dktX5_way_6 := dk_seg dksX5_way_5 24 rfl rfl
theorem dksX5_way_7 : cX5_way.data.toList.drop 165 = dktX5_way_7 := dk_seg dksX5_way_6 23 rfl rfl
theorem dksX5_way_8 : cX5_way.data.toList.drop 189 = dktX5_way_8 := dk_seg dksX5_way_7 24 rfl rfl
theorem dksX5_way_9 : cX5_way.data.toList.drop 213 = dktX5_way_9 := dk_seg dksX5_way_8 24 rfl rfl
theorem dksX5_way_10 : cX5_way.data.toList.drop 237 = dktX5_way_10 := dk_seg dksX5_way_9 24 rfl rfl
theorem dksX5_way_11 : cX5_way.data.toList.drop 261 = dktX5_way_11 := dk_seg dksX5_way_10 24 rfl rfl
theorem dksX5_way_12 : cX5_way.data.toList.drop 283 = dktX5_way_12 := dk_seg dksX5_way_11 22 rfl rfl
theorem dksX5_way_13 : cX5_way.data.toList.drop 307 = dktX5_way_13 := dk_seg dksX5_way_12 24 rfl rfl
theorem dksX5_way_14 : cX5_way.data.toList.drop 331 = dktX5_way_14 := dk_seg dksX5_way_13 24 rfl rfl
theorem dksX5_way_15 : cX5_way.data.toList.drop 354 = dktX5_way_15 := dk_seg dksX5_way_14 23 rfl rfl
theorem dksX5_way_16 : cX5_way.data.toList.drop 377 = dktX5_way_16 := dk_seg dksX5_way_15 23 rfl rfl
theorem dksX5_way_17 : cX5_way.data.toList.drop 399 = dktX5_way_17 := dk_seg dksX5_way_16 22 rfl rfl
theorem dX5_way_0 : decode cX5_way 0 = .ok (.iload_n 1, 1) := dk_27 (dk_at dksX5_way_0 0 rfl rfl)
theorem dX5_way_1 : decode cX5_way 1 = .ok (.invokestatic 91, 3) := dk_184 0 91 (dk_at dksX5_way_0 1 rfl rfl)
theorem dX5_way_4 : decode cX5_way 4 = .ok (.ifCond .eq 22, 3) := dk_153 0 22 (dk_at dksX5_way_0 4 rfl rfl)
theorem dX5_way_7 : decode cX5_way 7 = .ok (.iload_n 2, 1) := dk_28 (dk_at dksX5_way_0 7 rfl rfl)
theorem dX5_way_8 : decode cX5_way 8 = .ok (.invokestatic 71, 3) := dk_184 0 71 (dk_at dksX5_way_0 8 rfl rfl)
theorem dX5_way_11 : decode cX5_way 11 = .ok (.ifCond .eq 15, 3) := dk_153 0 15 (dk_at dksX5_way_0 11 rfl rfl)
theorem dX5_way_14 : decode cX5_way 14 = .ok (.iload 4, 2) := dk_21 4 (dk_at dksX5_way_0 14 rfl rfl)
theorem dX5_way_16 : decode cX5_way 16 = .ok (.ifCond .eq 10, 3) := dk_153 0 10 (dk_at dksX5_way_0 16 rfl rfl)
theorem dX5_way_19 : decode cX5_way 19 = .ok (.iload 4, 2) := dk_21 4 (dk_at dksX5_way_0 19 rfl rfl)
theorem dX5_way_21 : decode cX5_way 21 = .ok (.bipush 12, 2) := dk_16 12 (dk_at dksX5_way_0 21 rfl rfl)
theorem dX5_way_23 : decode cX5_way 23 = .ok (.if_icmp .le 5, 3) := dk_164 0 5 (dk_at dksX5_way_1 0 rfl rfl)
theorem dX5_way_26 : decode cX5_way 26 = .ok (.iconst (-1), 1) := dk_2 (dk_at dksX5_way_1 3 rfl rfl)
theorem dX5_way_27 : decode cX5_way 27 = .ok (.ireturn, 1) := dk_172 (dk_at dksX5_way_1 4 rfl rfl)
theorem dX5_way_28 : decode cX5_way 28 = .ok (.aload_n 0, 1) := dk_42 (dk_at dksX5_way_1 5 rfl rfl)
theorem dX5_way_29 : decode cX5_way 29 = .ok (.getfield 7, 3) := dk_180 0 7 (dk_at dksX5_way_1 6 rfl rfl)
theorem dX5_way_32 : decode cX5_way 32 = .ok (.iload_n 2, 1) := dk_28 (dk_at dksX5_way_1 9 rfl rfl)
theorem dX5_way_33 : decode cX5_way 33 = .ok (.iaload, 1) := dk_46 (dk_at dksX5_way_1 10 rfl rfl)
theorem dX5_way_34 : decode cX5_way 34 = .ok (.ifCond .ge 6, 3) := dk_156 0 6 (dk_at dksX5_way_1 11 rfl rfl)
theorem dX5_way_37 : decode cX5_way 37 = .ok (.bipush (-11), 2) := dk_16 245 (dk_at dksX5_way_1 14 rfl rfl)
theorem dX5_way_39 : decode cX5_way 39 = .ok (.ireturn, 1) := dk_172 (dk_at dksX5_way_1 16 rfl rfl)
theorem dX5_way_40 : decode cX5_way 40 = .ok (.iload 4, 2) := dk_21 4 (dk_at dksX5_way_1 17 rfl rfl)
theorem dX5_way_42 : decode cX5_way 42 = .ok (.ifCond .ge 6, 3) := dk_156 0 6 (dk_at dksX5_way_1 19 rfl rfl)
theorem dX5_way_45 : decode cX5_way 45 = .ok (.bipush (-13), 2) := dk_16 243 (dk_at dksX5_way_1 22 rfl rfl)
theorem dX5_way_47 : decode cX5_way 47 = .ok (.ireturn, 1) := dk_172 (dk_at dksX5_way_2 0 rfl rfl)
theorem dX5_way_48 : decode cX5_way 48 = .ok (.aload_n 0, 1) := dk_42 (dk_at dksX5_way_2 1 rfl rfl)
theorem dX5_way_49 : decode cX5_way 49 = .ok (.iload_n 2, 1) := dk_28 (dk_at dksX5_way_2 2 rfl rfl)
theorem dX5_way_50 : decode cX5_way 50 = .ok (.iload_n 3, 1) := dk_29 (dk_at dksX5_way_2 3 rfl rfl)
theorem dX5_way_51 : decode cX5_way 51 = .ok (.iload 4, 2) := dk_21 4 (dk_at dksX5_way_2 4 rfl rfl)
theorem dX5_way_53 : decode cX5_way 53 = .ok (.invokevirtual 79, 3) := dk_182 0 79 (dk_at dksX5_way_2 6 rfl rfl)
theorem dX5_way_56 : decode cX5_way 56 = .ok (.ifCond .eq 6, 3) := dk_153 0 6 (dk_at dksX5_way_2 9 rfl rfl)
theorem dX5_way_59 : decode cX5_way 59 = .ok (.bipush (-12), 2) := dk_16 244 (dk_at dksX5_way_2 12 rfl rfl)
theorem dX5_way_61 : decode cX5_way 61 = .ok (.ireturn, 1) := dk_172 (dk_at dksX5_way_2 14 rfl rfl)
theorem dX5_way_62 : decode cX5_way 62 = .ok (.aload_n 0, 1) := dk_42 (dk_at dksX5_way_2 15 rfl rfl)
theorem dX5_way_63 : decode cX5_way 63 = .ok (.aload_n 0, 1) := dk_42 (dk_at dksX5_way_2 16 rfl rfl)
theorem dX5_way_64 : decode cX5_way 64 = .ok (.getfield 56, 3) := dk_180 0 56 (dk_at dksX5_way_2 17 rfl rfl)
theorem dX5_way_67 : decode cX5_way 67 = .ok (.iload_n 1, 1) := dk_27 (dk_at dksX5_way_2 20 rfl rfl)
theorem dX5_way_68 : decode cX5_way 68 = .ok (.invokevirtual 122, 3) := dk_182 0 122 (dk_at dksX5_way_2 21 rfl rfl)
theorem dX5_way_71 : decode cX5_way 71 = .ok (.aload_n 0, 1) := dk_42 (dk_at dksX5_way_3 0 rfl rfl)
theorem dX5_way_72 : decode cX5_way 72 = .ok (.getfield 56, 3) := dk_180 0 56 (dk_at dksX5_way_3 1 rfl rfl)
theorem dX5_way_75 : decode cX5_way 75 = .ok (.invokestatic 126, 3) := dk_184 0 126 (dk_at dksX5_way_3 4 rfl rfl)
theorem dX5_way_78 : decode cX5_way 78 = .ok (.lstore 5, 2) := dk_55 5 (dk_at dksX5_way_3 7 rfl rfl)
theorem dX5_way_80 : decode cX5_way 80 = .ok (.lconst 1, 1) := dk_10 (dk_at dksX5_way_3 9 rfl rfl)
theorem dX5_way_81 : decode cX5_way 81 = .ok (.lstore 7, 2) := dk_55 7 (dk_at dksX5_way_3 10 rfl rfl)
theorem dX5_way_83 : decode cX5_way 83 = .ok (.aload_n 0, 1) := dk_42 (dk_at dksX5_way_3 12 rfl rfl)
theorem dX5_way_84 : decode cX5_way 84 = .ok (.aload_n 0, 1) := dk_42 (dk_at dksX5_way_3 13 rfl rfl)
theorem dX5_way_85 : decode cX5_way 85 = .ok (.getfield 56, 3) := dk_180 0 56 (dk_at dksX5_way_3 14 rfl rfl)
theorem dX5_way_88 : decode cX5_way 88 = .ok (.invokevirtual 130, 3) := dk_182 0 130 (dk_at dksX5_way_3 17 rfl rfl)
theorem dX5_way_91 : decode cX5_way 91 = .ok (.istore 9, 2) := dk_54 9 (dk_at dksX5_way_3 20 rfl rfl)
theorem dX5_way_93 : decode cX5_way 93 = .ok (.iconst 0, 1) := dk_3 (dk_at dksX5_way_3 22 rfl rfl)
theorem dX5_way_94 : decode cX5_way 94 = .ok (.istore 10, 2) := dk_54 10 (dk_at dksX5_way_4 0 rfl rfl)
theorem dX5_way_96 : decode cX5_way 96 = .ok (.iload 10, 2) := dk_21 10 (dk_at dksX5_way_4 2 rfl rfl)
theorem dX5_way_98 : decode cX5_way 98 = .ok (.iload 4, 2) := dk_21 4 (dk_at dksX5_way_4 4 rfl rfl)
theorem dX5_way_100 : decode cX5_way 100 = .ok (.if_icmp .ge 80, 3) := dk_162 0 80 (dk_at dksX5_way_4 6 rfl rfl)
theorem dX5_way_103 : decode cX5_way 103 = .ok (.iload 9, 2) := dk_21 9 (dk_at dksX5_way_4 9 rfl rfl)
theorem dX5_way_105 : decode cX5_way 105 = .ok (.ifCond .eq 75, 3) := dk_153 0 75 (dk_at dksX5_way_4 11 rfl rfl)
theorem dX5_way_108 : decode cX5_way 108 = .ok (.aload_n 0, 1) := dk_42 (dk_at dksX5_way_4 14 rfl rfl)
theorem dX5_way_109 : decode cX5_way 109 = .ok (.getfield 16, 3) := dk_180 0 16 (dk_at dksX5_way_4 15 rfl rfl)
theorem dX5_way_112 : decode cX5_way 112 = .ok (.bipush 16, 2) := dk_16 16 (dk_at dksX5_way_4 18 rfl rfl)
theorem dX5_way_114 : decode cX5_way 114 = .ok (.iload_n 2, 1) := dk_28 (dk_at dksX5_way_4 20 rfl rfl)
theorem dX5_way_115 : decode cX5_way 115 = .ok (.imul, 1) := dk_104 (dk_at dksX5_way_4 21 rfl rfl)
theorem dX5_way_116 : decode cX5_way 116 = .ok (.iload_n 3, 1) := dk_29 (dk_at dksX5_way_4 22 rfl rfl)
theorem dX5_way_117 : decode cX5_way 117 = .ok (.iadd, 1) := dk_96 (dk_at dksX5_way_4 23 rfl rfl)
theorem dX5_way_118 : decode cX5_way 118 = .ok (.iload 10, 2) := dk_21 10 (dk_at dksX5_way_5 0 rfl rfl)
theorem dX5_way_120 : decode cX5_way 120 = .ok (.iadd, 1) := dk_96 (dk_at dksX5_way_5 2 rfl rfl)
theorem dX5_way_121 : decode cX5_way 121 = .ok (.laload, 1) := dk_47 (dk_at dksX5_way_5 3 rfl rfl)
theorem dX5_way_122 : decode cX5_way 122 = .ok (.lstore 11, 2) := dk_55 11 (dk_at dksX5_way_5 4 rfl rfl)
theorem dX5_way_124 : decode cX5_way 124 = .ok (.lload 11, 2) := dk_22 11 (dk_at dksX5_way_5 6 rfl rfl)
theorem dX5_way_126 : decode cX5_way 126 = .ok (.lload 5, 2) := dk_22 5 (dk_at dksX5_way_5 8 rfl rfl)
theorem dX5_way_128 : decode cX5_way 128 = .ok (.lcmp, 1) := dk_148 (dk_at dksX5_way_5 10 rfl rfl)
theorem dX5_way_129 : decode cX5_way 129 = .ok (.ifCond .gt 26, 3) := dk_157 0 26 (dk_at dksX5_way_5 11 rfl rfl)
theorem dX5_way_132 : decode cX5_way 132 = .ok (.lload 11, 2) := dk_22 11 (dk_at dksX5_way_5 14 rfl rfl)
theorem dX5_way_134 : decode cX5_way 134 = .ok (.invokestatic 174, 3) := dk_184 0 174 (dk_at dksX5_way_5 16 rfl rfl)
theorem dX5_way_137 : decode cX5_way 137 = .ok (.ifCond .eq 18, 3) := dk_153 0 18 (dk_at dksX5_way_5 19 rfl rfl)
theorem dX5_way_140 : decode cX5_way 140 = .ok (.lload 7, 2) := dk_22 7 (dk_at dksX5_way_5 22 rfl rfl)
theorem dX5_way_142 : decode cX5_way 142 = .ok (.lload 11, 2) := dk_22 11 (dk_at dksX5_way_6 0 rfl rfl)
theorem dX5_way_144 : decode cX5_way 144 = .ok (.lmul, 1) := dk_105 (dk_at dksX5_way_6 2 rfl rfl)
theorem dX5_way_145 : decode cX5_way 145 = .ok (.lload 5, 2) := dk_22 5 (dk_at dksX5_way_6 3 rfl rfl)
theorem dX5_way_147 : decode cX5_way 147 = .ok (.lcmp, 1) := dk_148 (dk_at dksX5_way_6 5 rfl rfl)
theorem dX5_way_148 : decode cX5_way 148 = .ok (.ifCond .gt 7, 3) := dk_157 0 7 (dk_at dksX5_way_6 6 rfl rfl)
theorem dX5_way_151 : decode cX5_way 151 = .ok (.iconst 1, 1) := dk_4 (dk_at dksX5_way_6 9 rfl rfl)
theorem dX5_way_152 : decode cX5_way 152 = .ok (.goto 4, 3) := dk_167 0 4 (dk_at dksX5_way_6 10 rfl rfl)
theorem dX5_way_155 : decode cX5_way 155 = .ok (.iconst 0, 1) := dk_3 (dk_at dksX5_way_6 13 rfl rfl)
theorem dX5_way_156 : decode cX5_way 156 = .ok (.istore 9, 2) := dk_54 9 (dk_at dksX5_way_6 14 rfl rfl)
theorem dX5_way_158 : decode cX5_way 158 = .ok (.lload 7, 2) := dk_22 7 (dk_at dksX5_way_6 16 rfl rfl)
theorem dX5_way_160 : decode cX5_way 160 = .ok (.iload 9, 2) := dk_21 9 (dk_at dksX5_way_6 18 rfl rfl)
theorem dX5_way_162 : decode cX5_way 162 = .ok (.ifCond .eq 8, 3) := dk_153 0 8 (dk_at dksX5_way_6 20 rfl rfl)
theorem dX5_way_165 : decode cX5_way 165 = .ok (.lload 11, 2) := dk_22 11 (dk_at dksX5_way_7 0 rfl rfl)
theorem dX5_way_167 : decode cX5_way 167 = .ok (.goto 4, 3) := dk_167 0 4 (dk_at dksX5_way_7 2 rfl rfl)
theorem dX5_way_170 : decode cX5_way 170 = .ok (.lconst 1, 1) := dk_10 (dk_at dksX5_way_7 5 rfl rfl)
theorem dX5_way_171 : decode cX5_way 171 = .ok (.lmul, 1) := dk_105 (dk_at dksX5_way_7 6 rfl rfl)
theorem dX5_way_172 : decode cX5_way 172 = .ok (.lstore 7, 2) := dk_55 7 (dk_at dksX5_way_7 7 rfl rfl)
theorem dX5_way_174 : decode cX5_way 174 = .ok (.iinc 10 1, 3) := dk_132 10 1 (dk_at dksX5_way_7 9 rfl rfl)
theorem dX5_way_177 : decode cX5_way 177 = .ok (.goto (-81), 3) := dk_167 255 175 (dk_at dksX5_way_7 12 rfl rfl)
theorem dX5_way_180 : decode cX5_way 180 = .ok (.iload 9, 2) := dk_21 9 (dk_at dksX5_way_7 15 rfl rfl)
theorem dX5_way_182 : decode cX5_way 182 = .ok (.ifCond .eq 11, 3) := dk_153 0 11 (dk_at dksX5_way_7 17 rfl rfl)
theorem dX5_way_185 : decode cX5_way 185 = .ok (.lload 7, 2) := dk_22 7 (dk_at dksX5_way_7 20 rfl rfl)
theorem dX5_way_187 : decode cX5_way 187 = .ok (.lload 5, 2) := dk_22 5 (dk_at dksX5_way_7 22 rfl rfl)
theorem dX5_way_189 : decode cX5_way 189 = .ok (.lcmp, 1) := dk_148 (dk_at dksX5_way_8 0 rfl rfl)
theorem dX5_way_190 : decode cX5_way 190 = .ok (.ifCond .eq 6, 3) := dk_153 0 6 (dk_at dksX5_way_8 1 rfl rfl)
theorem dX5_way_193 : decode cX5_way 193 = .ok (.bipush (-2), 2) := dk_16 254 (dk_at dksX5_way_8 4 rfl rfl)
theorem dX5_way_195 : decode cX5_way 195 = .ok (.ireturn, 1) := dk_172 (dk_at dksX5_way_8 6 rfl rfl)
theorem dX5_way_196 : decode cX5_way 196 = .ok (.iconst 0, 1) := dk_3 (dk_at dksX5_way_8 7 rfl rfl)
theorem dX5_way_197 : decode cX5_way 197 = .ok (.istore 10, 2) := dk_54 10 (dk_at dksX5_way_8 8 rfl rfl)
theorem dX5_way_199 : decode cX5_way 199 = .ok (.iload 10, 2) := dk_21 10 (dk_at dksX5_way_8 10 rfl rfl)
theorem dX5_way_201 : decode cX5_way 201 = .ok (.iload 4, 2) := dk_21 4 (dk_at dksX5_way_8 12 rfl rfl)
theorem dX5_way_203 : decode cX5_way 203 = .ok (.iconst 1, 1) := dk_4 (dk_at dksX5_way_8 14 rfl rfl)
theorem dX5_way_204 : decode cX5_way 204 = .ok (.isub, 1) := dk_100 (dk_at dksX5_way_8 15 rfl rfl)
theorem dX5_way_205 : decode cX5_way 205 = .ok (.if_icmp .ge 171, 3) := dk_162 0 171 (dk_at dksX5_way_8 16 rfl rfl)
theorem dX5_way_208 : decode cX5_way 208 = .ok (.iconst 0, 1) := dk_3 (dk_at dksX5_way_8 19 rfl rfl)
theorem dX5_way_209 : decode cX5_way 209 = .ok (.istore 11, 2) := dk_54 11 (dk_at dksX5_way_8 20 rfl rfl)
theorem dX5_way_211 : decode cX5_way 211 = .ok (.iload 11, 2) := dk_21 11 (dk_at dksX5_way_8 22 rfl rfl)
theorem dX5_way_213 : decode cX5_way 213 = .ok (.iconst 4, 1) := dk_7 (dk_at dksX5_way_9 0 rfl rfl)
theorem dX5_way_214 : decode cX5_way 214 = .ok (.if_icmp .ge 43, 3) := dk_162 0 43 (dk_at dksX5_way_9 1 rfl rfl)
theorem dX5_way_217 : decode cX5_way 217 = .ok (.aload_n 0, 1) := dk_42 (dk_at dksX5_way_9 4 rfl rfl)
theorem dX5_way_218 : decode cX5_way 218 = .ok (.getfield 32, 3) := dk_180 0 32 (dk_at dksX5_way_9 5 rfl rfl)
theorem dX5_way_221 : decode cX5_way 221 = .ok (.iload 11, 2) := dk_21 11 (dk_at dksX5_way_9 8 rfl rfl)
theorem dX5_way_223 : decode cX5_way 223 = .ok (.iload 11, 2) := dk_21 11 (dk_at dksX5_way_9 10 rfl rfl)
theorem dX5_way_225 : decode cX5_way 225 = .ok (.ifCond .ne 24, 3) := dk_154 0 24 (dk_at dksX5_way_9 12 rfl rfl)
theorem dX5_way_228 : decode cX5_way 228 = .ok (.ldc2_w 77, 3) := dk_20 0 77 (dk_at dksX5_way_9 15 rfl rfl)
theorem dX5_way_231 : decode cX5_way 231 = .ok (.aload_n 0, 1) := dk_42 (dk_at dksX5_way_9 18 rfl rfl)
theorem dX5_way_232 : decode cX5_way 232 = .ok (.getfield 16, 3) := dk_180 0 16 (dk_at dksX5_way_9 19 rfl rfl)
theorem dX5_way_235 : decode cX5_way 235 = .ok (.bipush 16, 2) := dk_16 16 (dk_at dksX5_way_9 22 rfl rfl)
theorem dX5_way_237 : decode cX5_way 237 = .ok (.iload_n 2, 1) := dk_28 (dk_at dksX5_way_10 0 rfl rfl)
theorem dX5_way_238 : decode cX5_way 238 = .ok (.imul, 1) := dk_104 (dk_at dksX5_way_10 1 rfl rfl)
theorem dX5_way_239 : decode cX5_way 239 = .ok (.iload_n 3, 1) := dk_29 (dk_at dksX5_way_10 2 rfl rfl)
theorem dX5_way_240 : decode cX5_way 240 = .ok (.iadd, 1) := dk_96 (dk_at dksX5_way_10 3 rfl rfl)
theorem dX5_way_241 : decode cX5_way 241 = .ok (.iload 10, 2) := dk_21 10 (dk_at dksX5_way_10 4 rfl rfl)
theorem dX5_way_243 : decode cX5_way 243 = .ok (.iadd, 1) := dk_96 (dk_at dksX5_way_10 6 rfl rfl)
theorem dX5_way_244 : decode cX5_way 244 = .ok (.laload, 1) := dk_47 (dk_at dksX5_way_10 7 rfl rfl)
theorem dX5_way_245 : decode cX5_way 245 = .ok (.lmul, 1) := dk_105 (dk_at dksX5_way_10 8 rfl rfl)
theorem dX5_way_246 : decode cX5_way 246 = .ok (.goto 4, 3) := dk_167 0 4 (dk_at dksX5_way_10 9 rfl rfl)
theorem dX5_way_249 : decode cX5_way 249 = .ok (.lconst 0, 1) := dk_9 (dk_at dksX5_way_10 12 rfl rfl)
theorem dX5_way_250 : decode cX5_way 250 = .ok (.lastore, 1) := dk_80 (dk_at dksX5_way_10 13 rfl rfl)
theorem dX5_way_251 : decode cX5_way 251 = .ok (.iinc 11 1, 3) := dk_132 11 1 (dk_at dksX5_way_10 14 rfl rfl)
theorem dX5_way_254 : decode cX5_way 254 = .ok (.goto (-43), 3) := dk_167 255 213 (dk_at dksX5_way_10 17 rfl rfl)
theorem dX5_way_257 : decode cX5_way 257 = .ok (.aload_n 0, 1) := dk_42 (dk_at dksX5_way_10 20 rfl rfl)
theorem dX5_way_258 : decode cX5_way 258 = .ok (.getfield 35, 3) := dk_180 0 35 (dk_at dksX5_way_10 21 rfl rfl)
theorem dX5_way_261 : decode cX5_way 261 = .ok (.aload_n 0, 1) := dk_42 (dk_at dksX5_way_11 0 rfl rfl)
theorem dX5_way_262 : decode cX5_way 262 = .ok (.getfield 56, 3) := dk_180 0 56 (dk_at dksX5_way_11 1 rfl rfl)
theorem dX5_way_265 : decode cX5_way 265 = .ok (.invokestatic 152, 3) := dk_184 0 152 (dk_at dksX5_way_11 4 rfl rfl)
theorem dX5_way_268 : decode cX5_way 268 = .ok (.aload_n 0, 1) := dk_42 (dk_at dksX5_way_11 7 rfl rfl)
theorem dX5_way_269 : decode cX5_way 269 = .ok (.iconst 1, 1) := dk_4 (dk_at dksX5_way_11 8 rfl rfl)
theorem dX5_way_270 : decode cX5_way 270 = .ok (.invokevirtual 167, 3) := dk_182 0 167 (dk_at dksX5_way_11 9 rfl rfl)
theorem dX5_way_273 : decode cX5_way 273 = .ok (.iconst 0, 1) := dk_3 (dk_at dksX5_way_11 12 rfl rfl)
theorem dX5_way_274 : decode cX5_way 274 = .ok (.istore 11, 2) := dk_54 11 (dk_at dksX5_way_11 13 rfl rfl)
theorem dX5_way_276 : decode cX5_way 276 = .ok (.iload 11, 2) := dk_21 11 (dk_at dksX5_way_11 15 rfl rfl)
theorem dX5_way_278 : decode cX5_way 278 = .ok (.iconst 4, 1) := dk_7 (dk_at dksX5_way_11 17 rfl rfl)
theorem dX5_way_279 : decode cX5_way 279 = .ok (.if_icmp .ge 28, 3) := dk_162 0 28 (dk_at dksX5_way_11 18 rfl rfl)
theorem dX5_way_282 : decode cX5_way 282 = .ok (.aload_n 0, 1) := dk_42 (dk_at dksX5_way_11 21 rfl rfl)
theorem dX5_way_283 : decode cX5_way 283 = .ok (.getfield 26, 3) := dk_180 0 26 (dk_at dksX5_way_12 0 rfl rfl)
theorem dX5_way_286 : decode cX5_way 286 = .ok (.iconst 4, 1) := dk_7 (dk_at dksX5_way_12 3 rfl rfl)
theorem dX5_way_287 : decode cX5_way 287 = .ok (.iload 10, 2) := dk_21 10 (dk_at dksX5_way_12 4 rfl rfl)
theorem dX5_way_289 : decode cX5_way 289 = .ok (.imul, 1) := dk_104 (dk_at dksX5_way_12 6 rfl rfl)
theorem dX5_way_290 : decode cX5_way 290 = .ok (.iload 11, 2) := dk_21 11 (dk_at dksX5_way_12 7 rfl rfl)
theorem dX5_way_292 : decode cX5_way 292 = .ok (.iadd, 1) := dk_96 (dk_at dksX5_way_12 9 rfl rfl)
theorem dX5_way_293 : decode cX5_way 293 = .ok (.aload_n 0, 1) := dk_42 (dk_at dksX5_way_12 10 rfl rfl)
theorem dX5_way_294 : decode cX5_way 294 = .ok (.getfield 44, 3) := dk_180 0 44 (dk_at dksX5_way_12 11 rfl rfl)
theorem dX5_way_297 : decode cX5_way 297 = .ok (.iload 11, 2) := dk_21 11 (dk_at dksX5_way_12 14 rfl rfl)
theorem dX5_way_299 : decode cX5_way 299 = .ok (.laload, 1) := dk_47 (dk_at dksX5_way_12 16 rfl rfl)
theorem dX5_way_300 : decode cX5_way 300 = .ok (.lastore, 1) := dk_80 (dk_at dksX5_way_12 17 rfl rfl)
theorem dX5_way_301 : decode cX5_way 301 = .ok (.iinc 11 1, 3) := dk_132 11 1 (dk_at dksX5_way_12 18 rfl rfl)
theorem dX5_way_304 : decode cX5_way 304 = .ok (.goto (-28), 3) := dk_167 255 228 (dk_at dksX5_way_12 21 rfl rfl)
theorem dX5_way_307 : decode cX5_way 307 = .ok (.aload_n 0, 1) := dk_42 (dk_at dksX5_way_13 0 rfl rfl)
theorem dX5_way_308 : decode cX5_way 308 = .ok (.getfield 44, 3) := dk_180 0 44 (dk_at dksX5_way_13 1 rfl rfl)
theorem dX5_way_311 : decode cX5_way 311 = .ok (.invokestatic 126, 3) := dk_184 0 126 (dk_at dksX5_way_13 4 rfl rfl)
theorem dX5_way_314 : decode cX5_way 314 = .ok (.lstore 11, 2) := dk_55 11 (dk_at dksX5_way_13 7 rfl rfl)
theorem dX5_way_316 : decode cX5_way 316 = .ok (.aload_n 0, 1) := dk_42 (dk_at dksX5_way_13 9 rfl rfl)
theorem dX5_way_317 : decode cX5_way 317 = .ok (.getfield 44, 3) := dk_180 0 44 (dk_at dksX5_way_13 10 rfl rfl)
theorem dX5_way_320 : decode cX5_way 320 = .ok (.invokestatic 139, 3) := dk_184 0 139 (dk_at dksX5_way_13 13 rfl rfl)
theorem dX5_way_323 : decode cX5_way 323 = .ok (.aload_n 0, 1) := dk_42 (dk_at dksX5_way_13 16 rfl rfl)
theorem dX5_way_324 : decode cX5_way 324 = .ok (.getfield 38, 3) := dk_180 0 38 (dk_at dksX5_way_13 17 rfl rfl)
theorem dX5_way_327 : decode cX5_way 327 = .ok (.aload_n 0, 1) := dk_42 (dk_at dksX5_way_13 20 rfl rfl)
theorem dX5_way_328 : decode cX5_way 328 = .ok (.getfield 44, 3) := dk_180 0 44 (dk_at dksX5_way_13 21 rfl rfl)
theorem dX5_way_331 : decode cX5_way 331 = .ok (.aload_n 0, 1) := dk_42 (dk_at dksX5_way_14 0 rfl rfl)
theorem dX5_way_332 : decode cX5_way 332 = .ok (.getfield 56, 3) := dk_180 0 56 (dk_at dksX5_way_14 1 rfl rfl)
theorem dX5_way_335 : decode cX5_way 335 = .ok (.invokestatic 143, 3) := dk_184 0 143 (dk_at dksX5_way_14 4 rfl rfl)
theorem dX5_way_338 : decode cX5_way 338 = .ok (.iconst 0, 1) := dk_3 (dk_at dksX5_way_14 7 rfl rfl)
theorem dX5_way_339 : decode cX5_way 339 = .ok (.istore 13, 2) := dk_54 13 (dk_at dksX5_way_14 8 rfl rfl)
theorem dX5_way_341 : decode cX5_way 341 = .ok (.iload 13, 2) := dk_21 13 (dk_at dksX5_way_14 10 rfl rfl)
theorem dX5_way_343 : decode cX5_way 343 = .ok (.iconst 4, 1) := dk_7 (dk_at dksX5_way_14 12 rfl rfl)
theorem dX5_way_344 : decode cX5_way 344 = .ok (.if_icmp .ge 26, 3) := dk_162 0 26 (dk_at dksX5_way_14 13 rfl rfl)
theorem dX5_way_347 : decode cX5_way 347 = .ok (.aload_n 0, 1) := dk_42 (dk_at dksX5_way_14 16 rfl rfl)
theorem dX5_way_348 : decode cX5_way 348 = .ok (.getfield 56, 3) := dk_180 0 56 (dk_at dksX5_way_14 17 rfl rfl)
theorem dX5_way_351 : decode cX5_way 351 = .ok (.iload 13, 2) := dk_21 13 (dk_at dksX5_way_14 20 rfl rfl)
theorem dX5_way_353 : decode cX5_way 353 = .ok (.aload_n 0, 1) := dk_42 (dk_at dksX5_way_14 22 rfl rfl)
theorem dX5_way_354 : decode cX5_way 354 = .ok (.getfield 38, 3) := dk_180 0 38 (dk_at dksX5_way_15 0 rfl rfl)
theorem dX5_way_357 : decode cX5_way 357 = .ok (.iload 13, 2) := dk_21 13 (dk_at dksX5_way_15 3 rfl rfl)
theorem dX5_way_359 : decode cX5_way 359 = .ok (.laload, 1) := dk_47 (dk_at dksX5_way_15 5 rfl rfl)
theorem dX5_way_360 : decode cX5_way 360 = .ok (.lload 11, 2) := dk_22 11 (dk_at dksX5_way_15 6 rfl rfl)
theorem dX5_way_362 : decode cX5_way 362 = .ok (.ldiv, 1) := dk_109 (dk_at dksX5_way_15 8 rfl rfl)
theorem dX5_way_363 : decode cX5_way 363 = .ok (.lastore, 1) := dk_80 (dk_at dksX5_way_15 9 rfl rfl)
theorem dX5_way_364 : decode cX5_way 364 = .ok (.iinc 13 1, 3) := dk_132 13 1 (dk_at dksX5_way_15 10 rfl rfl)
theorem dX5_way_367 : decode cX5_way 367 = .ok (.goto (-26), 3) := dk_167 255 230 (dk_at dksX5_way_15 13 rfl rfl)
theorem dX5_way_370 : decode cX5_way 370 = .ok (.iinc 10 1, 3) := dk_132 10 1 (dk_at dksX5_way_15 16 rfl rfl)
theorem dX5_way_373 : decode cX5_way 373 = .ok (.goto (-174), 3) := dk_167 255 82 (dk_at dksX5_way_15 19 rfl rfl)
theorem dX5_way_376 : decode cX5_way 376 = .ok (.iconst 0, 1) := dk_3 (dk_at dksX5_way_15 22 rfl rfl)
theorem dX5_way_377 : decode cX5_way 377 = .ok (.istore 10, 2) := dk_54 10 (dk_at dksX5_way_16 0 rfl rfl)
theorem dX5_way_379 : decode cX5_way 379 = .ok (.iload 10, 2) := dk_21 10 (dk_at dksX5_way_16 2 rfl rfl)
theorem dX5_way_381 : decode cX5_way 381 = .ok (.iconst 4, 1) := dk_7 (dk_at dksX5_way_16 4 rfl rfl)
theorem dX5_way_382 : decode cX5_way 382 = .ok (.if_icmp .ge 30, 3) := dk_162 0 30 (dk_at dksX5_way_16 5 rfl rfl)
theorem dX5_way_385 : decode cX5_way 385 = .ok (.aload_n 0, 1) := dk_42 (dk_at dksX5_way_16 8 rfl rfl)
theorem dX5_way_386 : decode cX5_way 386 = .ok (.getfield 26, 3) := dk_180 0 26 (dk_at dksX5_way_16 9 rfl rfl)
theorem dX5_way_389 : decode cX5_way 389 = .ok (.iconst 4, 1) := dk_7 (dk_at dksX5_way_16 12 rfl rfl)
theorem dX5_way_390 : decode cX5_way 390 = .ok (.iload 4, 2) := dk_21 4 (dk_at dksX5_way_16 13 rfl rfl)
theorem dX5_way_392 : decode cX5_way 392 = .ok (.imul, 1) := dk_104 (dk_at dksX5_way_16 15 rfl rfl)
theorem dX5_way_393 : decode cX5_way 393 = .ok (.iconst 4, 1) := dk_7 (dk_at dksX5_way_16 16 rfl rfl)
theorem dX5_way_394 : decode cX5_way 394 = .ok (.isub, 1) := dk_100 (dk_at dksX5_way_16 17 rfl rfl)
theorem dX5_way_395 : decode cX5_way 395 = .ok (.iload 10, 2) := dk_21 10 (dk_at dksX5_way_16 18 rfl rfl)
theorem dX5_way_397 : decode cX5_way 397 = .ok (.iadd, 1) := dk_96 (dk_at dksX5_way_16 20 rfl rfl)
theorem dX5_way_398 : decode cX5_way 398 = .ok (.aload_n 0, 1) := dk_42 (dk_at dksX5_way_16 21 rfl rfl)
theorem dX5_way_399 : decode cX5_way 399 = .ok (.getfield 56, 3) := dk_180 0 56 (dk_at dksX5_way_17 0 rfl rfl)
theorem dX5_way_402 : decode cX5_way 402 = .ok (.iload 10, 2) := dk_21 10 (dk_at dksX5_way_17 3 rfl rfl)
theorem dX5_way_404 : decode cX5_way 404 = .ok (.laload, 1) := dk_47 (dk_at dksX5_way_17 5 rfl rfl)
theorem dX5_way_405 : decode cX5_way 405 = .ok (.lastore, 1) := dk_80 (dk_at dksX5_way_17 6 rfl rfl)
theorem dX5_way_406 : decode cX5_way 406 = .ok (.iinc 10 1, 3) := dk_132 10 1 (dk_at dksX5_way_17 7 rfl rfl)
theorem dX5_way_409 : decode cX5_way 409 = .ok (.goto (-30), 3) := dk_167 255 226 (dk_at dksX5_way_17 10 rfl rfl)
theorem dX5_way_412 : decode cX5_way 412 = .ok (.aload_n 0, 1) := dk_42 (dk_at dksX5_way_17 13 rfl rfl)
theorem dX5_way_413 : decode cX5_way 413 = .ok (.iload 4, 2) := dk_21 4 (dk_at dksX5_way_17 14 rfl rfl)
theorem dX5_way_415 : decode cX5_way 415 = .ok (.putfield 177, 3) := dk_181 0 177 (dk_at dksX5_way_17 16 rfl rfl)
theorem dX5_way_418 : decode cX5_way 418 = .ok (.iload 4, 2) := dk_21 4 (dk_at dksX5_way_17 19 rfl rfl)
theorem dX5_way_420 : decode cX5_way 420 = .ok (.ireturn, 1) := dk_172 (dk_at dksX5_way_17 21 rfl rfl)
abbrev cX5_isPrime : ByteArray := prog_9_method_39_code
def yX5_isPrime : MethodName := ⟨RX5, "isPrime", "(J)Z"⟩
def dkwX5_isPrime_2 : List UInt8 := [167, 255, 226, 28, 172]
abbrev dktX5_isPrime_2 : List UInt8 := dkwX5_isPrime_2 ++ []
def dkwX5_isPrime_1 : List UInt8 := [28, 153, 0, 24, 30, 33, 113, 9, 148, 153, 0, 7, 4, 167, 0, 4, 3, 61, 33, 10, 97, 66]
abbrev dktX5_isPrime_1 : List UInt8 := dkwX5_isPrime_1 ++ dktX5_isPrime_2
def dkwX5_isPrime_0 : List UInt8 := [30, 10, 148, 158, 0, 7, 4, 167, 0, 4, 3, 61, 20, 0, 77, 66, 33, 33, 105, 30, 148, 157, 0, 28]
abbrev dktX5_isPrime_0 : List UInt8 := dkwX5_isPrime_0 ++ dktX5_isPrime_1
theorem dksX5_isPrime_0 : cX5_isPrime.data.toList.drop 0 = dktX5_isPrime_0 := by decide +kernel
theorem dksX5_isPrime_1 : cX5_isPrime.data.toList.drop 24 = dktX5_isPrime_1 := dk_seg dksX5_isPrime_0 24 rfl rfl
theorem dksX5_isPrime_2 : cX5_isPrime.data.toList.drop 46 = dktX5_isPrime_2 := dk_seg dksX5_isPrime_1 22 rfl rfl
theorem dX5_isPrime_0 : decode cX5_isPrime 0 = .ok (.lload_n 0, 1) := dk_30 (dk_at dksX5_isPrime_0 0 rfl rfl)
theorem dX5_isPrime_1 : decode cX5_isPrime 1 = .ok (.lconst 1, 1) := dk_10 (dk_at dksX5_isPrime_0 1 rfl rfl)
theorem dX5_isPrime_2 : decode cX5_isPrime 2 = .ok (.lcmp, 1) := dk_148 (dk_at dksX5_isPrime_0 2 rfl rfl)
theorem dX5_isPrime_3 : decode cX5_isPrime 3 = .ok (.ifCond .le 7, 3) := dk_158 0 7 (dk_at dksX5_isPrime_0 3 rfl rfl)
theorem dX5_isPrime_6 : decode cX5_isPrime 6 = .ok (.iconst 1, 1) := dk_4 (dk_at dksX5_isPrime_0 6 rfl rfl)
theorem dX5_isPrime_7 : decode cX5_isPrime 7 = .ok (.goto 4, 3) := dk_167 0 4 (dk_at dksX5_isPrime_0 7 rfl rfl)
theorem dX5_isPrime_10 : decode cX5_isPrime 10 = .ok (.iconst 0, 1) := dk_3 (dk_at dksX5_isPrime_0 10 rfl rfl)
theorem dX5_isPrime_11 : decode cX5_isPrime 11 = .ok (.istore_n 2, 1) := dk_61 (dk_at dksX5_isPrime_0 11 rfl rfl)
theorem dX5_isPrime_12 : decode cX5_isPrime 12 = .ok (.ldc2_w 77, 3) := dk_20 0 77 (dk_at dksX5_isPrime_0 12 rfl rfl)
theorem dX5_isPrime_15 : decode cX5_isPrime 15 = .ok (.lstore_n 3, 1) := dk_66 (dk_at dksX5_isPrime_0 15 rfl rfl)
theorem dX5_isPrime_16 : decode cX5_isPrime 16 = .ok (.lload_n 3, 1) := dk_33 (dk_at dksX5_isPrime_0 16 rfl rfl)
theorem dX5_isPrime_17 : decode cX5_isPrime 17 = .ok (.lload_n 3, 1) := dk_33 (dk_at dksX5_isPrime_0 17 rfl rfl)
theorem dX5_isPrime_18 : decode cX5_isPrime 18 = .ok (.lmul, 1) := dk_105 (dk_at dksX5_isPrime_0 18 rfl rfl)
theorem dX5_isPrime_19 : decode cX5_isPrime 19 = .ok (.lload_n 0, 1) := dk_30 (dk_at dksX5_isPrime_0 19 rfl rfl)
theorem dX5_isPrime_20 : decode cX5_isPrime 20 = .ok (.lcmp, 1) := dk_148 (dk_at dksX5_isPrime_0 20 rfl rfl)
theorem dX5_isPrime_21 : decode cX5_isPrime 21 = .ok (.ifCond .gt 28, 3) := dk_157 0 28 (dk_at dksX5_isPrime_0 21 rfl rfl)
theorem dX5_isPrime_24 : decode cX5_isPrime 24 = .ok (.iload_n 2, 1) := dk_28 (dk_at dksX5_isPrime_1 0 rfl rfl)
theorem dX5_isPrime_25 : decode cX5_isPrime 25 = .ok (.ifCond .eq 24, 3) := dk_153 0 24 (dk_at dksX5_isPrime_1 1 rfl rfl)
theorem dX5_isPrime_28 : decode cX5_isPrime 28 = .ok (.lload_n 0, 1) := dk_30 (dk_at dksX5_isPrime_1 4 rfl rfl)
theorem dX5_isPrime_29 : decode cX5_isPrime 29 = .ok (.lload_n 3, 1) := dk_33 (dk_at dksX5_isPrime_1 5 rfl rfl)
theorem dX5_isPrime_30 : decode cX5_isPrime 30 = .ok (.lrem, 1) := dk_113 (dk_at dksX5_isPrime_1 6 rfl rfl)
theorem dX5_isPrime_31 : decode cX5_isPrime 31 = .ok (.lconst 0, 1) := dk_9 (dk_at dksX5_isPrime_1 7 rfl rfl)
theorem dX5_isPrime_32 : decode cX5_isPrime 32 = .ok (.lcmp, 1) := dk_148 (dk_at dksX5_isPrime_1 8 rfl rfl)
theorem dX5_isPrime_33 : decode cX5_isPrime 33 = .ok (.ifCond .eq 7, 3) := dk_153 0 7 (dk_at dksX5_isPrime_1 9 rfl rfl)
theorem dX5_isPrime_36 : decode cX5_isPrime 36 = .ok (.iconst 1, 1) := dk_4 (dk_at dksX5_isPrime_1 12 rfl rfl)
theorem dX5_isPrime_37 : decode cX5_isPrime 37 = .ok (.goto 4, 3) := dk_167 0 4 (dk_at dksX5_isPrime_1 13 rfl rfl)
theorem dX5_isPrime_40 : decode cX5_isPrime 40 = .ok (.iconst 0, 1) := dk_3 (dk_at dksX5_isPrime_1 16 rfl rfl)
theorem dX5_isPrime_41 : decode cX5_isPrime 41 = .ok (.istore_n 2, 1) := dk_61 (dk_at dksX5_isPrime_1 17 rfl rfl)
theorem dX5_isPrime_42 : decode cX5_isPrime 42 = .ok (.lload_n 3, 1) := dk_33 (dk_at dksX5_isPrime_1 18 rfl rfl)
theorem dX5_isPrime_43 : decode cX5_isPrime 43 = .ok (.lconst 1, 1) := dk_10 (dk_at dksX5_isPrime_1 19 rfl rfl)
theorem dX5_isPrime_44 : decode cX5_isPrime 44 = .ok (.ladd, 1) := dk_97 (dk_at dksX5_isPrime_1 20 rfl rfl)
theorem dX5_isPrime_45 : decode cX5_isPrime 45 = .ok (.lstore_n 3, 1) := dk_66 (dk_at dksX5_isPrime_1 21 rfl rfl)
theorem dX5_isPrime_46 : decode cX5_isPrime 46 = .ok (.goto (-30), 3) := dk_167 255 226 (dk_at dksX5_isPrime_2 0 rfl rfl)
theorem dX5_isPrime_49 : decode cX5_isPrime 49 = .ok (.iload_n 2, 1) := dk_28 (dk_at dksX5_isPrime_2 3 rfl rfl)
theorem dX5_isPrime_50 : decode cX5_isPrime 50 = .ok (.ireturn, 1) := dk_172 (dk_at dksX5_isPrime_2 4 rfl rfl)
abbrev cX5_factor : ByteArray := prog_9_method_41_code
def yX5_factor : MethodName := ⟨RX5, "factor", "(II)I"⟩
def dkwX5_factor_3 : List UInt8 := [180, 0, 32, 184, 0, 126, 136, 167, 0, 5, 16, 253, 172]
abbrev dktX5_factor_3 : List UInt8 := dkwX5_factor_3 ++ []
def dkwX5_factor_2 : List UInt8 := [104, 29, 96, 47, 80, 132, 3, 1, 167, 255, 232, 42, 27, 42, 180, 0, 32, 182, 0, 108, 154, 0, 14, 42]
abbrev dktX5_factor_2 : List UInt8 := dkwX5_factor_2 ++ dktX5_factor_3
def dkwX5_factor_1 : List UInt8 := [154, 0, 6, 16, 254, 172, 3, 62, 29, 7, 162, 0, 25, 42, 180, 0, 32, 29, 42, 180, 0, 26, 7, 28]
abbrev dktX5_factor_1 : List UInt8 := dkwX5_factor_1 ++ dktX5_factor_2
def dkwX5_factor_0 : List UInt8 := [27, 184, 0, 91, 154, 0, 5, 2, 172, 28, 133, 9, 42, 180, 0, 177, 4, 100, 133, 184, 0, 65]
abbrev dktX5_factor_0 : List UInt8 := dkwX5_factor_0 ++ dktX5_factor_1
theorem dksX5_factor_0 : cX5_factor.data.toList.drop 0 = dktX5_factor_0 := by decide +kernel
theorem dksX5_factor_1 : cX5_factor.data.toList.drop 22 = dktX5_factor_1 := dk_seg dksX5_factor_0 22 rfl rfl
theorem dksX5_factor_2 : cX5_factor.data.toList.drop 46 = dktX5_factor_2 := dk_seg dksX5_factor_1 24 rfl rfl
theorem dksX5_factor_3 : cX5_factor.data.toList.drop 70 = dktX5_factor_3 := dk_seg dksX5_factor_2 24 rfl rfl
theorem dX5_factor_0 : decode cX5_factor 0 = .ok (.iload_n 1, 1) := dk_27 (dk_at dksX5_factor_0 0 rfl rfl)
theorem dX5_factor_1 : decode cX5_factor 1 = .ok (.invokestatic 91, 3) := dk_184 0 91 (dk_at dksX5_factor_0 1 rfl rfl)
theorem dX5_factor_4 : decode cX5_factor 4 = .ok (.ifCond .ne 5, 3) := dk_154 0 5 (dk_at dksX5_factor_0 4 rfl rfl)
theorem dX5_factor_7 : decode cX5_factor 7 = .ok (.iconst (-1), 1) := dk_2 (dk_at dksX5_factor_0 7 rfl rfl)
theorem dX5_factor_8 : decode cX5_factor 8 = .ok (.ireturn, 1) := dk_172 (dk_at dksX5_factor_0 8 rfl rfl)
theorem dX5_factor_9 : decode cX5_factor 9 = .ok (.iload_n 2, 1) := dk_28 (dk_at dksX5_factor_0 9 rfl rfl)
theorem dX5_factor_10 : decode cX5_factor 10 = .ok (.i2l, 1) := dk_133 (dk_at dksX5_factor_0 10 rfl rfl)
theorem dX5_factor_11 : decode cX5_factor 11 = .ok (.lconst 0, 1) := dk_9 (dk_at dksX5_factor_0 11 rfl rfl)
theorem dX5_factor_12 : decode cX5_factor 12 = .ok (.aload_n 0, 1) := dk_42 (dk_at dksX5_factor_0 12 rfl rfl)
theorem dX5_factor_13 : decode cX5_factor 13 = .ok (.getfield 177, 3) := dk_180 0 177 (dk_at dksX5_factor_0 13 rfl rfl)
theorem dX5_factor_16 : decode cX5_factor 16 = .ok (.iconst 1, 1) := dk_4 (dk_at dksX5_factor_0 16 rfl rfl)
theorem dX5_factor_17 : decode cX5_factor 17 = .ok (.isub, 1) := dk_100 (dk_at dksX5_factor_0 17 rfl rfl)
theorem dX5_factor_18 : decode cX5_factor 18 = .ok (.i2l, 1) := dk_133 (dk_at dksX5_factor_0 18 rfl rfl)
theorem dX5_factor_19 : decode cX5_factor 19 = .ok (.invokestatic 65, 3) := dk_184 0 65 (dk_at dksX5_factor_0 19 rfl rfl)
theorem dX5_factor_22 : decode cX5_factor 22 = .ok (.ifCond .ne 6, 3) := dk_154 0 6 (dk_at dksX5_factor_1 0 rfl rfl)
theorem dX5_factor_25 : decode cX5_factor 25 = .ok (.bipush (-2), 2) := dk_16 254 (dk_at dksX5_factor_1 3 rfl rfl)
theorem dX5_factor_27 : decode cX5_factor 27 = .ok (.ireturn, 1) := dk_172 (dk_at dksX5_factor_1 5 rfl rfl)
theorem dX5_factor_28 : decode cX5_factor 28 = .ok (.iconst 0, 1) := dk_3 (dk_at dksX5_factor_1 6 rfl rfl)
theorem dX5_factor_29 : decode cX5_factor 29 = .ok (.istore_n 3, 1) := dk_62 (dk_at dksX5_factor_1 7 rfl rfl)
theorem dX5_factor_30 : decode cX5_factor 30 = .ok (.iload_n 3, 1) := dk_29 (dk_at dksX5_factor_1 8 rfl rfl)
theorem dX5_factor_31 : decode cX5_factor 31 = .ok (.iconst 4, 1) := dk_7 (dk_at dksX5_factor_1 9 rfl rfl)
theorem dX5_factor_32 : decode cX5_factor 32 = .ok (.if_icmp .ge 25, 3) := dk_162 0 25 (dk_at dksX5_factor_1 10 rfl rfl)
theorem dX5_factor_35 : decode cX5_factor 35 = .ok (.aload_n 0, 1) := dk_42 (dk_at dksX5_factor_1 13 rfl rfl)
theorem dX5_factor_36 : decode cX5_factor 36 = .ok (.getfield 32, 3) := dk_180 0 32 (dk_at dksX5_factor_1 14 rfl rfl)
theorem dX5_factor_39 : decode cX5_factor 39 = .ok (.iload_n 3, 1) := dk_29 (dk_at dksX5_factor_1 17 rfl rfl)
theorem dX5_factor_40 : decode cX5_factor 40 = .ok (.aload_n 0, 1) := dk_42 (dk_at dksX5_factor_1 18 rfl rfl)
theorem dX5_factor_41 : decode cX5_factor 41 = .ok (.getfield 26, 3) := dk_180 0 26 (dk_at dksX5_factor_1 19 rfl rfl)
theorem dX5_factor_44 : decode cX5_factor 44 = .ok (.iconst 4, 1) := dk_7 (dk_at dksX5_factor_1 22 rfl rfl)
theorem dX5_factor_45 : decode cX5_factor 45 = .ok (.iload_n 2, 1) := dk_28 (dk_at dksX5_factor_1 23 rfl rfl)
theorem dX5_factor_46 : decode cX5_factor 46 = .ok (.imul, 1) := dk_104 (dk_at dksX5_factor_2 0 rfl rfl)
theorem dX5_factor_47 : decode cX5_factor 47 = .ok (.iload_n 3, 1) := dk_29 (dk_at dksX5_factor_2 1 rfl rfl)
theorem dX5_factor_48 : decode cX5_factor 48 = .ok (.iadd, 1) := dk_96 (dk_at dksX5_factor_2 2 rfl rfl)
theorem dX5_factor_49 : decode cX5_factor 49 = .ok (.laload, 1) := dk_47 (dk_at dksX5_factor_2 3 rfl rfl)
theorem dX5_factor_50 : decode cX5_factor 50 = .ok (.lastore, 1) := dk_80 (dk_at dksX5_factor_2 4 rfl rfl)
theorem dX5_factor_51 : decode cX5_factor 51 = .ok (.iinc 3 1, 3) := dk_132 3 1 (dk_at dksX5_factor_2 5 rfl rfl)
theorem dX5_factor_54 : decode cX5_factor 54 = .ok (.goto (-24), 3) := dk_167 255 232 (dk_at dksX5_factor_2 8 rfl rfl)
theorem dX5_factor_57 : decode cX5_factor 57 = .ok (.aload_n 0, 1) := dk_42 (dk_at dksX5_factor_2 11 rfl rfl)
theorem dX5_factor_58 : decode cX5_factor 58 = .ok (.iload_n 1, 1) := dk_27 (dk_at dksX5_factor_2 12 rfl rfl)
theorem dX5_factor_59 : decode cX5_factor 59 = .ok (.aload_n 0, 1) := dk_42 (dk_at dksX5_factor_2 13 rfl rfl)
theorem dX5_factor_60 : decode cX5_factor 60 = .ok (.getfield 32, 3) := dk_180 0 32 (dk_at dksX5_factor_2 14 rfl rfl)
theorem dX5_factor_63 : decode cX5_factor 63 = .ok (.invokevirtual 108, 3) := dk_182 0 108 (dk_at dksX5_factor_2 17 rfl rfl)
theorem dX5_factor_66 : decode cX5_factor 66 = .ok (.ifCond .ne 14, 3) := dk_154 0 14 (dk_at dksX5_factor_2 20 rfl rfl)
theorem dX5_factor_69 : decode cX5_factor 69 = .ok (.aload_n 0, 1) := dk_42 (dk_at dksX5_factor_2 23 rfl rfl)
theorem dX5_factor_70 : decode cX5_factor 70 = .ok (.getfield 32, 3) := dk_180 0 32 (dk_at dksX5_factor_3 0 rfl rfl)
theorem dX5_factor_73 : decode cX5_factor 73 = .ok (.invokestatic 126, 3) := dk_184 0 126 (dk_at dksX5_factor_3 3 rfl rfl)
theorem dX5_factor_76 : decode cX5_factor 76 = .ok (.l2i, 1) := dk_136 (dk_at dksX5_factor_3 6 rfl rfl)
theorem dX5_factor_77 : decode cX5_factor 77 = .ok (.goto 5, 3) := dk_167 0 5 (dk_at dksX5_factor_3 7 rfl rfl)
theorem dX5_factor_80 : decode cX5_factor 80 = .ok (.bipush (-3), 2) := dk_16 253 (dk_at dksX5_factor_3 10 rfl rfl)
theorem dX5_factor_82 : decode cX5_factor 82 = .ok (.ireturn, 1) := dk_172 (dk_at dksX5_factor_3 12 rfl rfl)
abbrev cX5_many : ByteArray := prog_9_method_44_code
def yX5_many : MethodName := ⟨RX5, "many", "(II)I"⟩
def dkwX5_many_1 : List UInt8 := [42, 27, 28, 2, 182, 0, 187, 167, 0, 4, 2, 172]
abbrev dktX5_many_1 : List UInt8 := dkwX5_many_1 ++ []
def dkwX5_many_0 : List UInt8 := [27, 133, 10, 20, 0, 185, 184, 0, 65, 153, 0, 25, 28, 133, 9, 20, 0, 77, 184, 0, 65, 153, 0, 13]
abbrev dktX5_many_0 : List UInt8 := dkwX5_many_0 ++ dktX5_many_1
theorem dksX5_many_0 : cX5_many.data.toList.drop 0 = dktX5_many_0 := by decide +kernel
theorem dksX5_many_1 : cX5_many.data.toList.drop 24 = dktX5_many_1 := dk_seg dksX5_many_0 24 rfl rfl
theorem dX5_many_0 : decode cX5_many 0 = .ok (.iload_n 1, 1) := dk_27 (dk_at dksX5_many_0 0 rfl rfl)
theorem dX5_many_1 : decode cX5_many 1 = .ok (.i2l, 1) := dk_133 (dk_at dksX5_many_0 1 rfl rfl)
theorem dX5_many_2 : decode cX5_many 2 = .ok (.lconst 1, 1) := dk_10 (dk_at dksX5_many_0 2 rfl rfl)
theorem dX5_many_3 : decode cX5_many 3 = .ok (.ldc2_w 185, 3) := dk_20 0 185 (dk_at dksX5_many_0 3 rfl rfl)
theorem dX5_many_6 : decode cX5_many 6 = .ok (.invokestatic 65, 3) := dk_184 0 65 (dk_at dksX5_many_0 6 rfl rfl)
theorem dX5_many_9 : decode cX5_many 9 = .ok (.ifCond .eq 25, 3) := dk_153 0 25 (dk_at dksX5_many_0 9 rfl rfl)
theorem dX5_many_12 : decode cX5_many 12 = .ok (.iload_n 2, 1) := dk_28 (dk_at dksX5_many_0 12 rfl rfl)
theorem dX5_many_13 : decode cX5_many 13 = .ok (.i2l, 1) := dk_133 (dk_at dksX5_many_0 13 rfl rfl)
theorem dX5_many_14 : decode cX5_many 14 = .ok (.lconst 0, 1) := dk_9 (dk_at dksX5_many_0 14 rfl rfl)
theorem dX5_many_15 : decode cX5_many 15 = .ok (.ldc2_w 77, 3) := dk_20 0 77 (dk_at dksX5_many_0 15 rfl rfl)
theorem dX5_many_18 : decode cX5_many 18 = .ok (.invokestatic 65, 3) := dk_184 0 65 (dk_at dksX5_many_0 18 rfl rfl)
theorem dX5_many_21 : decode cX5_many 21 = .ok (.ifCond .eq 13, 3) := dk_153 0 13 (dk_at dksX5_many_0 21 rfl rfl)
theorem dX5_many_24 : decode cX5_many 24 = .ok (.aload_n 0, 1) := dk_42 (dk_at dksX5_many_1 0 rfl rfl)
theorem dX5_many_25 : decode cX5_many 25 = .ok (.iload_n 1, 1) := dk_27 (dk_at dksX5_many_1 1 rfl rfl)
theorem dX5_many_26 : decode cX5_many 26 = .ok (.iload_n 2, 1) := dk_28 (dk_at dksX5_many_1 2 rfl rfl)
theorem dX5_many_27 : decode cX5_many 27 = .ok (.iconst (-1), 1) := dk_2 (dk_at dksX5_many_1 3 rfl rfl)
theorem dX5_many_28 : decode cX5_many 28 = .ok (.invokevirtual 187, 3) := dk_182 0 187 (dk_at dksX5_many_1 4 rfl rfl)
theorem dX5_many_31 : decode cX5_many 31 = .ok (.goto 4, 3) := dk_167 0 4 (dk_at dksX5_many_1 7 rfl rfl)
theorem dX5_many_34 : decode cX5_many 34 = .ok (.iconst (-1), 1) := dk_2 (dk_at dksX5_many_1 10 rfl rfl)
theorem dX5_many_35 : decode cX5_many 35 = .ok (.ireturn, 1) := dk_172 (dk_at dksX5_many_1 11 rfl rfl)
abbrev cX5_goThrough : ByteArray := prog_9_method_43_code
def yX5_goThrough : MethodName := ⟨RX5, "goThrough", "(III)I"⟩
def dkwX5_goThrough_12 : List UInt8 := [167, 255, 17, 132, 8, 255, 167, 254, 255, 132, 7, 255, 167, 254, 237, 21, 6, 172]
abbrev dktX5_goThrough_12 : List UInt8 := dkwX5_goThrough_12 ++ []
def dkwX5_goThrough_11 : List UInt8 := [21, 6, 21, 13, 153, 0, 7, 4, 167, 0, 4, 3, 96, 54, 6, 132, 12, 1, 167, 255, 88, 132, 9, 255]
abbrev dktX5_goThrough_11 : List UInt8 := dkwX5_goThrough_11 ++ dktX5_goThrough_12
def dkwX5_goThrough_10 : List UInt8 := [153, 0, 7, 4, 167, 0, 4, 3, 54, 13, 21, 13, 153, 0, 12, 21, 6, 29, 160, 0, 6, 21, 6, 172]
abbrev dktX5_goThrough_10 : List UInt8 := dkwX5_goThrough_10 ++ dktX5_goThrough_11
def dkwX5_goThrough_9 : List UInt8 := [160, 0, 10, 21, 7, 5, 112, 153, 0, 19, 28, 5, 160, 0, 18, 42, 42, 180, 0, 32, 182, 0, 130]
abbrev dktX5_goThrough_9 : List UInt8 := dkwX5_goThrough_9 ++ dktX5_goThrough_10
def dkwX5_goThrough_8 : List UInt8 := [184, 0, 59, 153, 0, 49, 21, 12, 153, 0, 8, 21, 11, 158, 0, 39, 28, 153, 0, 31, 28, 4]
abbrev dktX5_goThrough_8 : List UInt8 := dkwX5_goThrough_8 ++ dktX5_goThrough_9
def dkwX5_goThrough_7 : List UInt8 := [21, 11, 133, 167, 0, 7, 21, 11, 116, 133, 80, 21, 7, 133, 21, 8, 133, 21, 9, 133, 21, 11, 133]
abbrev dktX5_goThrough_7 : List UInt8 := dkwX5_goThrough_7 ++ dktX5_goThrough_8
def dkwX5_goThrough_6 : List UInt8 := [21, 8, 133, 80, 42, 180, 0, 32, 5, 21, 9, 133, 80, 42, 180, 0, 32, 6, 21, 12, 154, 0, 9]
abbrev dktX5_goThrough_6 : List UInt8 := dkwX5_goThrough_6 ++ dktX5_goThrough_7
def dkwX5_goThrough_5 : List UInt8 := [21, 11, 21, 11, 104, 21, 10, 160, 0, 153, 42, 180, 0, 32, 3, 21, 7, 133, 80, 42, 180, 0, 32, 4]
abbrev dktX5_goThrough_5 : List UInt8 := dkwX5_goThrough_5 ++ dktX5_goThrough_6
def dkwX5_goThrough_4 : List UInt8 := [167, 0, 8, 21, 10, 184, 0, 181, 54, 11, 3, 54, 12, 21, 12, 5, 162, 0, 168, 21, 11, 155, 0, 163]
abbrev dktX5_goThrough_4 : List UInt8 := dkwX5_goThrough_4 ++ dktX5_goThrough_5
def dkwX5_goThrough_3 : List UInt8 := [21, 7, 104, 100, 21, 8, 21, 8, 104, 100, 21, 9, 21, 9, 104, 100, 54, 10, 21, 10, 156, 0, 7, 2]
abbrev dktX5_goThrough_3 : List UInt8 := dkwX5_goThrough_3 ++ dktX5_goThrough_4
def dkwX5_goThrough_2 : List UInt8 := [161, 0, 237, 21, 7, 21, 7, 104, 21, 8, 21, 8, 104, 96, 21, 4, 163, 0, 221, 21, 4, 21, 7]
abbrev dktX5_goThrough_2 : List UInt8 := dkwX5_goThrough_2 ++ dktX5_goThrough_3
def dkwX5_goThrough_1 : List UInt8 := [161, 1, 17, 21, 5, 54, 8, 21, 8, 21, 5, 116, 161, 0, 255, 21, 5, 54, 9, 21, 9, 21, 5, 116]
abbrev dktX5_goThrough_1 : List UInt8 := dkwX5_goThrough_1 ++ dktX5_goThrough_2
def dkwX5_goThrough_0 : List UInt8 := [7, 27, 104, 54, 4, 21, 4, 184, 0, 181, 54, 5, 3, 54, 6, 21, 5, 54, 7, 21, 7, 21, 5, 116]
abbrev dktX5_goThrough_0 : List UInt8 := dkwX5_goThrough_0 ++ dktX5_goThrough_1
theorem dksX5_goThrough_0 : cX5_goThrough.data.toList.drop 0 = dktX5_goThrough_0 := by decide +kernel
theorem dksX5_goThrough_1 : cX5_goThrough.data.toList.drop 24 = dktX5_goThrough_1 := dk_seg dksX5_goThrough_0 24 rfl rfl
theorem dksX5_goThrough_2 : cX5_goThrough.data.toList.drop 48 = dktX5_goThrough_2 := dk_seg dksX5_goThrough_1 24 rfl rfl
theorem dksX5_goThrough_3 : cX5_goThrough.data.toList.drop 71 = dktX5_goThrough_3 := dk_seg dksX5_goThrough_2 23 rfl rfl
theorem dksX5_goThrough_4 : cX5_goThrough.data.toList.drop 95 = dktX5_goThrough_4 := dk_seg dksX5_goThrough_3 24 rfl rfl
theorem dksX5_goThrough_5 : cX5_goThrough.data.toList.drop 119 = dktX5_goThrough_5 := dk_seg dksX5_goThrough_4 24 rfl rfl
theorem dksX5_goThrough_6 : cX5_goThrough.data.toList.drop 143 = dktX5_goThrough_6 := dk_seg dksX5_goThrough_5 24 rfl rfl
theorem dksX5_goThrough_7 : cX5_goThrough.data.toList.drop 166 = dktX5_goThrough_7 := dk_seg dksX5_goThrough_6 23 rfl rfl
theorem dksX5_goThrough_8 : cX5_goThrough.data.toList.drop 189 = dktX5_goThrough_8 := dk_seg dksX5_goThrough_7 23 rfl rfl
theorem dksX5_goThrough_9 : cX5_goThrough.data.toList.drop 211 = dktX5_goThrough_9 := dk_seg dksX5_goThrough_8 22 rfl rfl
theorem dksX5_goThrough_10 : cX5_goThrough.data.toList.drop 234 = dktX5_goThrough_10 := dk_seg dksX5_goThrough_9 23 rfl rfl
theorem dksX5_goThrough_11 : cX5_goThrough.data.toList.drop 258 = dktX5_goThrough_11 := dk_seg dksX5_goThrough_10 24 rfl rfl
theorem dksX5_goThrough_12 : cX5_goThrough.data.toList.drop 282 = dktX5_goThrough_12 := dk_seg dksX5_goThrough_11 24 rfl rfl
theorem dX5_goThrough_0 : decode cX5_goThrough 0 = .ok (.iconst 4, 1) := dk_7 (dk_at dksX5_goThrough_0 0 rfl rfl)
theorem dX5_goThrough_1 : decode cX5_goThrough 1 = .ok (.iload_n 1, 1) := dk_27 (dk_at dksX5_goThrough_0 1 rfl rfl)
theorem dX5_goThrough_2 : decode cX5_goThrough 2 = .ok (.imul, 1) := dk_104 (dk_at dksX5_goThrough_0 2 rfl rfl)
theorem dX5_goThrough_3 : decode cX5_goThrough 3 = .ok (.istore 4, 2) := dk_54 4 (dk_at dksX5_goThrough_0 3 rfl rfl)
theorem dX5_goThrough_5 : decode cX5_goThrough 5 = .ok (.iload 4, 2) := dk_21 4 (dk_at dksX5_goThrough_0 5 rfl rfl)
theorem dX5_goThrough_7 : decode cX5_goThrough 7 = .ok (.invokestatic 181, 3) := dk_184 0 181 (dk_at dksX5_goThrough_0 7 rfl rfl)
theorem dX5_goThrough_10 : decode cX5_goThrough 10 = .ok (.istore 5, 2) := dk_54 5 (dk_at dksX5_goThrough_0 10 rfl rfl)
theorem dX5_goThrough_12 : decode cX5_goThrough 12 = .ok (.iconst 0, 1) := dk_3 (dk_at dksX5_goThrough_0 12 rfl rfl)
theorem dX5_goThrough_13 : decode cX5_goThrough 13 = .ok (.istore 6, 2) := dk_54 6 (dk_at dksX5_goThrough_0 13 rfl rfl)
theorem dX5_goThrough_15 : decode cX5_goThrough 15 = .ok (.iload 5, 2) := dk_21 5 (dk_at dksX5_goThrough_0 15 rfl rfl)
theorem dX5_goThrough_17 : decode cX5_goThrough 17 = .ok (.istore 7, 2) := dk_54 7 (dk_at dksX5_goThrough_0 17 rfl rfl)
theorem dX5_goThrough_19 : decode cX5_goThrough 19 = .ok (.iload 7, 2) := dk_21 7 (dk_at dksX5_goThrough_0 19 rfl rfl)
theorem dX5_goThrough_21 : decode cX5_goThrough 21 = .ok (.iload 5, 2) := dk_21 5 (dk_at dksX5_goThrough_0 21 rfl rfl)
theorem dX5_goThrough_23 : decode cX5_goThrough 23 = .ok (.ineg, 1) := dk_116 (dk_at dksX5_goThrough_0 23 rfl rfl)
theorem dX5_goThrough_24 : decode cX5_goThrough 24 = .ok (.if_icmp .lt 273, 3) := dk_161 1 17 (dk_at dksX5_goThrough_1 0 rfl rfl)
theorem dX5_goThrough_27 : decode cX5_goThrough 27 = .ok (.iload 5, 2) := dk_21 5 (dk_at dksX5_goThrough_1 3 rfl rfl)
theorem dX5_goThrough_29 : decode cX5_goThrough 29 = .ok (.istore 8, 2) := dk_54 8 (dk_at dksX5_goThrough_1 5 rfl rfl)
theorem dX5_goThrough_31 : decode cX5_goThrough 31 = .ok (.iload 8, 2) := dk_21 8 (dk_at dksX5_goThrough_1 7 rfl rfl)
theorem dX5_goThrough_33 : decode cX5_goThrough 33 = .ok (.iload 5, 2) := dk_21 5 (dk_at dksX5_goThrough_1 9 rfl rfl)
theorem dX5_goThrough_35 : decode cX5_goThrough 35 = .ok (.ineg, 1) := dk_116 (dk_at dksX5_goThrough_1 11 rfl rfl)
theorem dX5_goThrough_36 : decode cX5_goThrough 36 = .ok (.if_icmp .lt 255, 3) := dk_161 0 255 (dk_at dksX5_goThrough_1 12 rfl rfl)
theorem dX5_goThrough_39 : decode cX5_goThrough 39 = .ok (.iload 5, 2) := dk_21 5 (dk_at dksX5_goThrough_1 15 rfl rfl)
theorem dX5_goThrough_41 : decode cX5_goThrough 41 = .ok (.istore 9, 2) := dk_54 9 (dk_at dksX5_goThrough_1 17 rfl rfl)
theorem dX5_goThrough_43 : decode cX5_goThrough 43 = .ok (.iload 9, 2) := dk_21 9 (dk_at dksX5_goThrough_1 19 rfl rfl)
theorem dX5_goThrough_45 : decode cX5_goThrough 45 = .ok (.iload 5, 2) := dk_21 5 (dk_at dksX5_goThrough_1 21 rfl rfl)
theorem dX5_goThrough_47 : decode cX5_goThrough 47 = .ok (.ineg, 1) := dk_116 (dk_at dksX5_goThrough_1 23 rfl rfl)
theorem dX5_goThrough_48 : decode cX5_goThrough 48 = .ok (.if_icmp .lt 237, 3) := dk_161 0 237 (dk_at dksX5_goThrough_2 0 rfl rfl)
theorem dX5_goThrough_51 : decode cX5_goThrough 51 = .ok (.iload 7, 2) := dk_21 7 (dk_at dksX5_goThrough_2 3 rfl rfl)
theorem dX5_goThrough_53 : decode cX5_goThrough 53 = .ok (.iload 7, 2) := dk_21 7 (dk_at dksX5_goThrough_2 5 rfl rfl)
theorem dX5_goThrough_55 : decode cX5_goThrough 55 = .ok (.imul, 1) := dk_104 (dk_at dksX5_goThrough_2 7 rfl rfl)
theorem dX5_goThrough_56 : decode cX5_goThrough 56 = .ok (.iload 8, 2) := dk_21 8 (dk_at dksX5_goThrough_2 8 rfl rfl)
theorem dX5_goThrough_58 : decode cX5_goThrough 58 = .ok (.iload 8, 2) := dk_21 8 (dk_at dksX5_goThrough_2 10 rfl rfl)
theorem dX5_goThrough_60 : decode cX5_goThrough 60 = .ok (.imul, 1) := dk_104 (dk_at dksX5_goThrough_2 12 rfl rfl)
theorem dX5_goThrough_61 : decode cX5_goThrough 61 = .ok (.iadd, 1) := dk_96 (dk_at dksX5_goThrough_2 13 rfl rfl)
theorem dX5_goThrough_62 : decode cX5_goThrough 62 = .ok (.iload 4, 2) := dk_21 4 (dk_at dksX5_goThrough_2 14 rfl rfl)
theorem dX5_goThrough_64 : decode cX5_goThrough 64 = .ok (.if_icmp .gt 221, 3) := dk_163 0 221 (dk_at dksX5_goThrough_2 16 rfl rfl)
theorem dX5_goThrough_67 : decode cX5_goThrough 67 = .ok (.iload 4, 2) := dk_21 4 (dk_at dksX5_goThrough_2 19 rfl rfl)
theorem dX5_goThrough_69 : decode cX5_goThrough 69 = .ok (.iload 7, 2) := dk_21 7 (dk_at dksX5_goThrough_2 21 rfl rfl)
theorem dX5_goThrough_71 : decode cX5_goThrough 71 = .ok (.iload 7, 2) := dk_21 7 (dk_at dksX5_goThrough_3 0 rfl rfl)
theorem dX5_goThrough_73 : decode cX5_goThrough 73 = .ok (.imul, 1) := dk_104 (dk_at dksX5_goThrough_3 2 rfl rfl)
theorem dX5_goThrough_74 : decode cX5_goThrough 74 = .ok (.isub, 1) := dk_100 (dk_at dksX5_goThrough_3 3 rfl rfl)
theorem dX5_goThrough_75 : decode cX5_goThrough 75 = .ok (.iload 8, 2) := dk_21 8 (dk_at dksX5_goThrough_3 4 rfl rfl)
theorem dX5_goThrough_77 : decode cX5_goThrough 77 = .ok (.iload 8, 2) := dk_21 8 (dk_at dksX5_goThrough_3 6 rfl rfl)
theorem dX5_goThrough_79 : decode cX5_goThrough 79 = .ok (.imul, 1) := dk_104 (dk_at dksX5_goThrough_3 8 rfl rfl)
theorem dX5_goThrough_80 : decode cX5_goThrough 80 = .ok (.isub, 1) := dk_100 (dk_at dksX5_goThrough_3 9 rfl rfl)
theorem dX5_goThrough_81 : decode cX5_goThrough 81 = .ok (.iload 9, 2) := dk_21 9 (dk_at dksX5_goThrough_3 10 rfl rfl)
theorem dX5_goThrough_83 : decode cX5_goThrough 83 = .ok (.iload 9, 2) := dk_21 9 (dk_at dksX5_goThrough_3 12 rfl rfl)
theorem dX5_goThrough_85 : decode cX5_goThrough 85 = .ok (.imul, 1) := dk_104 (dk_at dksX5_goThrough_3 14 rfl rfl)
theorem dX5_goThrough_86 : decode cX5_goThrough 86 = .ok (.isub, 1) := dk_100 (dk_at dksX5_goThrough_3 15 rfl rfl)
theorem dX5_goThrough_87 : decode cX5_goThrough 87 = .ok (.istore 10, 2) := dk_54 10 (dk_at dksX5_goThrough_3 16 rfl rfl)
theorem dX5_goThrough_89 : decode cX5_goThrough 89 = .ok (.iload 10, 2) := dk_21 10 (dk_at dksX5_goThrough_3 18 rfl rfl)
theorem dX5_goThrough_91 : decode cX5_goThrough 91 = .ok (.ifCond .ge 7, 3) := dk_156 0 7 (dk_at dksX5_goThrough_3 20 rfl rfl)
theorem dX5_goThrough_94 : decode cX5_goThrough 94 = .ok (.iconst (-1), 1) := dk_2 (dk_at dksX5_goThrough_3 23 rfl rfl)
theorem dX5_goThrough_95 : decode cX5_goThrough 95 = .ok (.goto 8, 3) := dk_167 0 8 (dk_at dksX5_goThrough_4 0 rfl rfl)
theorem dX5_goThrough_98 : decode cX5_goThrough 98 = .ok (.iload 10, 2) := dk_21 10 (dk_at dksX5_goThrough_4 3 rfl rfl)
theorem dX5_goThrough_100 : decode cX5_goThrough 100 = .ok (.invokestatic 181, 3) := dk_184 0 181 (dk_at dksX5_goThrough_4 5 rfl rfl)
theorem dX5_goThrough_103 : decode cX5_goThrough 103 = .ok (.istore 11, 2) := dk_54 11 (dk_at dksX5_goThrough_4 8 rfl rfl)
theorem dX5_goThrough_105 : decode cX5_goThrough 105 = .ok (.iconst 0, 1) := dk_3 (dk_at dksX5_goThrough_4 10 rfl rfl)
theorem dX5_goThrough_106 : decode cX5_goThrough 106 = .ok (.istore 12, 2) := dk_54 12 (dk_at dksX5_goThrough_4 11 rfl rfl)
theorem dX5_goThrough_108 : decode cX5_goThrough 108 = .ok (.iload 12, 2) := dk_21 12 (dk_at dksX5_goThrough_4 13 rfl rfl)
theorem dX5_goThrough_110 : decode cX5_goThrough 110 = .ok (.iconst 2, 1) := dk_5 (dk_at dksX5_goThrough_4 15 rfl rfl)
theorem dX5_goThrough_111 : decode cX5_goThrough 111 = .ok (.if_icmp .ge 168, 3) := dk_162 0 168 (dk_at dksX5_goThrough_4 16 rfl rfl)
theorem dX5_goThrough_114 : decode cX5_goThrough 114 = .ok (.iload 11, 2) := dk_21 11 (dk_at dksX5_goThrough_4 19 rfl rfl)
theorem dX5_goThrough_116 : decode cX5_goThrough 116 = .ok (.ifCond .lt 163, 3) := dk_155 0 163 (dk_at dksX5_goThrough_4 21 rfl rfl)
theorem dX5_goThrough_119 : decode cX5_goThrough 119 = .ok (.iload 11, 2) := dk_21 11 (dk_at dksX5_goThrough_5 0 rfl rfl)
theorem dX5_goThrough_121 : decode cX5_goThrough 121 = .ok (.iload 11, 2) := dk_21 11 (dk_at dksX5_goThrough_5 2 rfl rfl)
theorem dX5_goThrough_123 : decode cX5_goThrough 123 = .ok (.imul, 1) := dk_104 (dk_at dksX5_goThrough_5 4 rfl rfl)
theorem dX5_goThrough_124 : decode cX5_goThrough 124 = .ok (.iload 10, 2) := dk_21 10 (dk_at dksX5_goThrough_5 5 rfl rfl)
theorem dX5_goThrough_126 : decode cX5_goThrough 126 = .ok (.if_icmp .ne 153, 3) := dk_160 0 153 (dk_at dksX5_goThrough_5 7 rfl rfl)
theorem dX5_goThrough_129 : decode cX5_goThrough 129 = .ok (.aload_n 0, 1) := dk_42 (dk_at dksX5_goThrough_5 10 rfl rfl)
theorem dX5_goThrough_130 : decode cX5_goThrough 130 = .ok (.getfield 32, 3) := dk_180 0 32 (dk_at dksX5_goThrough_5 11 rfl rfl)
theorem dX5_goThrough_133 : decode cX5_goThrough 133 = .ok (.iconst 0, 1) := dk_3 (dk_at dksX5_goThrough_5 14 rfl rfl)
theorem dX5_goThrough_134 : decode cX5_goThrough 134 = .ok (.iload 7, 2) := dk_21 7 (dk_at dksX5_goThrough_5 15 rfl rfl)
theorem dX5_goThrough_136 : decode cX5_goThrough 136 = .ok (.i2l, 1) := dk_133 (dk_at dksX5_goThrough_5 17 rfl rfl)
theorem dX5_goThrough_137 : decode cX5_goThrough 137 = .ok (.lastore, 1) := dk_80 (dk_at dksX5_goThrough_5 18 rfl rfl)
theorem dX5_goThrough_138 : decode cX5_goThrough 138 = .ok (.aload_n 0, 1) := dk_42 (dk_at dksX5_goThrough_5 19 rfl rfl)
theorem dX5_goThrough_139 : decode cX5_goThrough 139 = .ok (.getfield 32, 3) := dk_180 0 32 (dk_at dksX5_goThrough_5 20 rfl rfl)
theorem dX5_goThrough_142 : decode cX5_goThrough 142 = .ok (.iconst 1, 1) := dk_4 (dk_at dksX5_goThrough_5 23 rfl rfl)
theorem dX5_goThrough_143 : decode cX5_goThrough 143 = .ok (.iload 8, 2) := dk_21 8 (dk_at dksX5_goThrough_6 0 rfl rfl)
theorem dX5_goThrough_145 : decode cX5_goThrough 145 = .ok (.i2l, 1) := dk_133 (dk_at dksX5_goThrough_6 2 rfl rfl)
theorem dX5_goThrough_146 : decode cX5_goThrough 146 = .ok (.lastore, 1) := dk_80 (dk_at dksX5_goThrough_6 3 rfl rfl)
theorem dX5_goThrough_147 : decode cX5_goThrough 147 = .ok (.aload_n 0, 1) := dk_42 (dk_at dksX5_goThrough_6 4 rfl rfl)
theorem dX5_goThrough_148 : decode cX5_goThrough 148 = .ok (.getfield 32, 3) := dk_180 0 32 (dk_at dksX5_goThrough_6 5 rfl rfl)
theorem dX5_goThrough_151 : decode cX5_goThrough 151 = .ok (.iconst 2, 1) := dk_5 (dk_at dksX5_goThrough_6 8 rfl rfl)
theorem dX5_goThrough_152 : decode cX5_goThrough 152 = .ok (.iload 9, 2) := dk_21 9 (dk_at dksX5_goThrough_6 9 rfl rfl)
theorem dX5_goThrough_154 : decode cX5_goThrough 154 = .ok (.i2l, 1) := dk_133 (dk_at dksX5_goThrough_6 11 rfl rfl)
theorem dX5_goThrough_155 : decode cX5_goThrough 155 = .ok (.lastore, 1) := dk_80 (dk_at dksX5_goThrough_6 12 rfl rfl)
theorem dX5_goThrough_156 : decode cX5_goThrough 156 = .ok (.aload_n 0, 1) := dk_42 (dk_at dksX5_goThrough_6 13 rfl rfl)
theorem dX5_goThrough_157 : decode cX5_goThrough 157 = .ok (.getfield 32, 3) := dk_180 0 32 (dk_at dksX5_goThrough_6 14 rfl rfl)
theorem dX5_goThrough_160 : decode cX5_goThrough 160 = .ok (.iconst 3, 1) := dk_6 (dk_at dksX5_goThrough_6 17 rfl rfl)
theorem dX5_goThrough_161 : decode cX5_goThrough 161 = .ok (.iload 12, 2) := dk_21 12 (dk_at dksX5_goThrough_6 18 rfl rfl)
theorem dX5_goThrough_163 : decode cX5_goThrough 163 = .ok (.ifCond .ne 9, 3) := dk_154 0 9 (dk_at dksX5_goThrough_6 20 rfl rfl)
theorem dX5_goThrough_166 : decode cX5_goThrough 166 = .ok (.iload 11, 2) := dk_21 11 (dk_at dksX5_goThrough_7 0 rfl rfl)
theorem dX5_goThrough_168 : decode cX5_goThrough 168 = .ok (.i2l, 1) := dk_133 (dk_at dksX5_goThrough_7 2 rfl rfl)
theorem dX5_goThrough_169 : decode cX5_goThrough 169 = .ok (.goto 7, 3) := dk_167 0 7 (dk_at dksX5_goThrough_7 3 rfl rfl)
theorem dX5_goThrough_172 : decode cX5_goThrough 172 = .ok (.iload 11, 2) := dk_21 11 (dk_at dksX5_goThrough_7 6 rfl rfl)
theorem dX5_goThrough_174 : decode cX5_goThrough 174 = .ok (.ineg, 1) := dk_116 (dk_at dksX5_goThrough_7 8 rfl rfl)
theorem dX5_goThrough_175 : decode cX5_goThrough 175 = .ok (.i2l, 1) := dk_133 (dk_at dksX5_goThrough_7 9 rfl rfl)
theorem dX5_goThrough_176 : decode cX5_goThrough 176 = .ok (.lastore, 1) := dk_80 (dk_at dksX5_goThrough_7 10 rfl rfl)
theorem dX5_goThrough_177 : decode cX5_goThrough 177 = .ok (.iload 7, 2) := dk_21 7 (dk_at dksX5_goThrough_7 11 rfl rfl)
theorem dX5_goThrough_179 : decode cX5_goThrough 179 = .ok (.i2l, 1) := dk_133 (dk_at dksX5_goThrough_7 13 rfl rfl)
theorem dX5_goThrough_180 : decode cX5_goThrough 180 = .ok (.iload 8, 2) := dk_21 8 (dk_at dksX5_goThrough_7 14 rfl rfl)
theorem dX5_goThrough_182 : decode cX5_goThrough 182 = .ok (.i2l, 1) := dk_133 (dk_at dksX5_goThrough_7 16 rfl rfl)
theorem dX5_goThrough_183 : decode cX5_goThrough 183 = .ok (.iload 9, 2) := dk_21 9 (dk_at dksX5_goThrough_7 17 rfl rfl)
theorem dX5_goThrough_185 : decode cX5_goThrough 185 = .ok (.i2l, 1) := dk_133 (dk_at dksX5_goThrough_7 19 rfl rfl)
theorem dX5_goThrough_186 : decode cX5_goThrough 186 = .ok (.iload 11, 2) := dk_21 11 (dk_at dksX5_goThrough_7 20 rfl rfl)
theorem dX5_goThrough_188 : decode cX5_goThrough 188 = .ok (.i2l, 1) := dk_133 (dk_at dksX5_goThrough_7 22 rfl rfl)
theorem dX5_goThrough_189 : decode cX5_goThrough 189 = .ok (.invokestatic 59, 3) := dk_184 0 59 (dk_at dksX5_goThrough_8 0 rfl rfl)
theorem dX5_goThrough_192 : decode cX5_goThrough 192 = .ok (.ifCond .eq 49, 3) := dk_153 0 49 (dk_at dksX5_goThrough_8 3 rfl rfl)
theorem dX5_goThrough_195 : decode cX5_goThrough 195 = .ok (.iload 12, 2) := dk_21 12 (dk_at dksX5_goThrough_8 6 rfl rfl)
theorem dX5_goThrough_197 : decode cX5_goThrough 197 = .ok (.ifCond .eq 8, 3) := dk_153 0 8 (dk_at dksX5_goThrough_8 8 rfl rfl)
theorem dX5_goThrough_200 : decode cX5_goThrough 200 = .ok (.iload 11, 2) := dk_21 11 (dk_at dksX5_goThrough_8 11 rfl rfl)
theorem dX5_goThrough_202 : decode cX5_goThrough 202 = .ok (.ifCond .le 39, 3) := dk_158 0 39 (dk_at dksX5_goThrough_8 13 rfl rfl)
theorem dX5_goThrough_205 : decode cX5_goThrough 205 = .ok (.iload_n 2, 1) := dk_28 (dk_at dksX5_goThrough_8 16 rfl rfl)
theorem dX5_goThrough_206 : decode cX5_goThrough 206 = .ok (.ifCond .eq 31, 3) := dk_153 0 31 (dk_at dksX5_goThrough_8 17 rfl rfl)
theorem dX5_goThrough_209 : decode cX5_goThrough 209 = .ok (.iload_n 2, 1) := dk_28 (dk_at dksX5_goThrough_8 20 rfl rfl)
theorem dX5_goThrough_210 : decode cX5_goThrough 210 = .ok (.iconst 1, 1) := dk_4 (dk_at dksX5_goThrough_8 21 rfl rfl)
theorem dX5_goThrough_211 : decode cX5_goThrough 211 = .ok (.if_icmp .ne 10, 3) := dk_160 0 10 (dk_at dksX5_goThrough_9 0 rfl rfl)
theorem dX5_goThrough_214 : decode cX5_goThrough 214 = .ok (.iload 7, 2) := dk_21 7 (dk_at dksX5_goThrough_9 3 rfl rfl)
theorem dX5_goThrough_216 : decode cX5_goThrough 216 = .ok (.iconst 2, 1) := dk_5 (dk_at dksX5_goThrough_9 5 rfl rfl)
theorem dX5_goThrough_217 : decode cX5_goThrough 217 = .ok (.irem, 1) := dk_112 (dk_at dksX5_goThrough_9 6 rfl rfl)
theorem dX5_goThrough_218 : decode cX5_goThrough 218 = .ok (.ifCond .eq 19, 3) := dk_153 0 19 (dk_at dksX5_goThrough_9 7 rfl rfl)
theorem dX5_goThrough_221 : decode cX5_goThrough 221 = .ok (.iload_n 2, 1) := dk_28 (dk_at dksX5_goThrough_9 10 rfl rfl)
theorem dX5_goThrough_222 : decode cX5_goThrough 222 = .ok (.iconst 2, 1) := dk_5 (dk_at dksX5_goThrough_9 11 rfl rfl)
theorem dX5_goThrough_223 : decode cX5_goThrough 223 = .ok (.if_icmp .ne 18, 3) := dk_160 0 18 (dk_at dksX5_goThrough_9 12 rfl rfl)
theorem dX5_goThrough_226 : decode cX5_goThrough 226 = .ok (.aload_n 0, 1) := dk_42 (dk_at dksX5_goThrough_9 15 rfl rfl)
theorem dX5_goThrough_227 : decode cX5_goThrough 227 = .ok (.aload_n 0, 1) := dk_42 (dk_at dksX5_goThrough_9 16 rfl rfl)
theorem dX5_goThrough_228 : decode cX5_goThrough 228 = .ok (.getfield 32, 3) := dk_180 0 32 (dk_at dksX5_goThrough_9 17 rfl rfl)
theorem dX5_goThrough_231 : decode cX5_goThrough 231 = .ok (.invokevirtual 130, 3) := dk_182 0 130 (dk_at dksX5_goThrough_9 20 rfl rfl)
theorem dX5_goThrough_234 : decode cX5_goThrough 234 = .ok (.ifCond .eq 7, 3) := dk_153 0 7 (dk_at dksX5_goThrough_10 0 rfl rfl)
theorem dX5_goThrough_237 : decode cX5_goThrough 237 = .ok (.iconst 1, 1) := dk_4 (dk_at dksX5_goThrough_10 3 rfl rfl)
theorem dX5_goThrough_238 : decode cX5_goThrough 238 = .ok (.goto 4, 3) := dk_167 0 4 (dk_at dksX5_goThrough_10 4 rfl rfl)
theorem dX5_goThrough_241 : decode cX5_goThrough 241 = .ok (.iconst 0, 1) := dk_3 (dk_at dksX5_goThrough_10 7 rfl rfl)
theorem dX5_goThrough_242 : decode cX5_goThrough 242 = .ok (.istore 13, 2) := dk_54 13 (dk_at dksX5_goThrough_10 8 rfl rfl)
theorem dX5_goThrough_244 : decode cX5_goThrough 244 = .ok (.iload 13, 2) := dk_21 13 (dk_at dksX5_goThrough_10 10 rfl rfl)
theorem dX5_goThrough_246 : decode cX5_goThrough 246 = .ok (.ifCond .eq 12, 3) := dk_153 0 12 (dk_at dksX5_goThrough_10 12 rfl rfl)
theorem dX5_goThrough_249 : decode cX5_goThrough 249 = .ok (.iload 6, 2) := dk_21 6 (dk_at dksX5_goThrough_10 15 rfl rfl)
theorem dX5_goThrough_251 : decode cX5_goThrough 251 = .ok (.iload_n 3, 1) := dk_29 (dk_at dksX5_goThrough_10 17 rfl rfl)
theorem dX5_goThrough_252 : decode cX5_goThrough 252 = .ok (.if_icmp .ne 6, 3) := dk_160 0 6 (dk_at dksX5_goThrough_10 18 rfl rfl)
theorem dX5_goThrough_255 : decode cX5_goThrough 255 = .ok (.iload 6, 2) := dk_21 6 (dk_at dksX5_goThrough_10 21 rfl rfl)
theorem dX5_goThrough_257 : decode cX5_goThrough 257 = .ok (.ireturn, 1) := dk_172 (dk_at dksX5_goThrough_10 23 rfl rfl)
theorem dX5_goThrough_258 : decode cX5_goThrough 258 = .ok (.iload 6, 2) := dk_21 6 (dk_at dksX5_goThrough_11 0 rfl rfl)
theorem dX5_goThrough_260 : decode cX5_goThrough 260 = .ok (.iload 13, 2) := dk_21 13 (dk_at dksX5_goThrough_11 2 rfl rfl)
theorem dX5_goThrough_262 : decode cX5_goThrough 262 = .ok (.ifCond .eq 7, 3) := dk_153 0 7 (dk_at dksX5_goThrough_11 4 rfl rfl)
theorem dX5_goThrough_265 : decode cX5_goThrough 265 = .ok (.iconst 1, 1) := dk_4 (dk_at dksX5_goThrough_11 7 rfl rfl)
theorem dX5_goThrough_266 : decode cX5_goThrough 266 = .ok (.goto 4, 3) := dk_167 0 4 (dk_at dksX5_goThrough_11 8 rfl rfl)
theorem dX5_goThrough_269 : decode cX5_goThrough 269 = .ok (.iconst 0, 1) := dk_3 (dk_at dksX5_goThrough_11 11 rfl rfl)
theorem dX5_goThrough_270 : decode cX5_goThrough 270 = .ok (.iadd, 1) := dk_96 (dk_at dksX5_goThrough_11 12 rfl rfl)
theorem dX5_goThrough_271 : decode cX5_goThrough 271 = .ok (.istore 6, 2) := dk_54 6 (dk_at dksX5_goThrough_11 13 rfl rfl)
theorem dX5_goThrough_273 : decode cX5_goThrough 273 = .ok (.iinc 12 1, 3) := dk_132 12 1 (dk_at dksX5_goThrough_11 15 rfl rfl)
theorem dX5_goThrough_276 : decode cX5_goThrough 276 = .ok (.goto (-168), 3) := dk_167 255 88 (dk_at dksX5_goThrough_11 18 rfl rfl)
theorem dX5_goThrough_279 : decode cX5_goThrough 279 = .ok (.iinc 9 (-1), 3) := dk_132 9 255 (dk_at dksX5_goThrough_11 21 rfl rfl)
theorem dX5_goThrough_282 : decode cX5_goThrough 282 = .ok (.goto (-239), 3) := dk_167 255 17 (dk_at dksX5_goThrough_12 0 rfl rfl)
theorem dX5_goThrough_285 : decode cX5_goThrough 285 = .ok (.iinc 8 (-1), 3) := dk_132 8 255 (dk_at dksX5_goThrough_12 3 rfl rfl)
theorem dX5_goThrough_288 : decode cX5_goThrough 288 = .ok (.goto (-257), 3) := dk_167 254 255 (dk_at dksX5_goThrough_12 6 rfl rfl)
theorem dX5_goThrough_291 : decode cX5_goThrough 291 = .ok (.iinc 7 (-1), 3) := dk_132 7 255 (dk_at dksX5_goThrough_12 9 rfl rfl)
theorem dX5_goThrough_294 : decode cX5_goThrough 294 = .ok (.goto (-275), 3) := dk_167 254 237 (dk_at dksX5_goThrough_12 12 rfl rfl)
theorem dX5_goThrough_297 : decode cX5_goThrough 297 = .ok (.iload 6, 2) := dk_21 6 (dk_at dksX5_goThrough_12 15 rfl rfl)
theorem dX5_goThrough_299 : decode cX5_goThrough 299 = .ok (.ireturn, 1) := dk_172 (dk_at dksX5_goThrough_12 17 rfl rfl)
abbrev cX5_rootOf : ByteArray := prog_9_method_42_code
def yX5_rootOf : MethodName := ⟨RX5, "rootOf", "(I)I"⟩
def dkwX5_rootOf_0 : List UInt8 := [3, 60, 27, 4, 96, 27, 4, 96, 104, 26, 163, 0, 9, 132, 1, 1, 167, 255, 242, 27, 172]
abbrev dktX5_rootOf_0 : List UInt8 := dkwX5_rootOf_0 ++ []
theorem dksX5_rootOf_0 : cX5_rootOf.data.toList.drop 0 = dktX5_rootOf_0 := by decide +kernel
theorem dX5_rootOf_0 : decode cX5_rootOf 0 = .ok (.iconst 0, 1) := dk_3 (dk_at dksX5_rootOf_0 0 rfl rfl)
theorem dX5_rootOf_1 : decode cX5_rootOf 1 = .ok (.istore_n 1, 1) := dk_60 (dk_at dksX5_rootOf_0 1 rfl rfl)
theorem dX5_rootOf_2 : decode cX5_rootOf 2 = .ok (.iload_n 1, 1) := dk_27 (dk_at dksX5_rootOf_0 2 rfl rfl)
theorem dX5_rootOf_3 : decode cX5_rootOf 3 = .ok (.iconst 1, 1) := dk_4 (dk_at dksX5_rootOf_0 3 rfl rfl)
theorem dX5_rootOf_4 : decode cX5_rootOf 4 = .ok (.iadd, 1) := dk_96 (dk_at dksX5_rootOf_0 4 rfl rfl)
theorem dX5_rootOf_5 : decode cX5_rootOf 5 = .ok (.iload_n 1, 1) := dk_27 (dk_at dksX5_rootOf_0 5 rfl rfl)
theorem dX5_rootOf_6 : decode cX5_rootOf 6 = .ok (.iconst 1, 1) := dk_4 (dk_at dksX5_rootOf_0 6 rfl rfl)
theorem dX5_rootOf_7 : decode cX5_rootOf 7 = .ok (.iadd, 1) := dk_96 (dk_at dksX5_rootOf_0 7 rfl rfl)
theorem dX5_rootOf_8 : decode cX5_rootOf 8 = .ok (.imul, 1) := dk_104 (dk_at dksX5_rootOf_0 8 rfl rfl)
theorem dX5_rootOf_9 : decode cX5_rootOf 9 = .ok (.iload_n 0, 1) := dk_26 (dk_at dksX5_rootOf_0 9 rfl rfl)
theorem dX5_rootOf_10 : decode cX5_rootOf 10 = .ok (.if_icmp .gt 9, 3) := dk_163 0 9 (dk_at dksX5_rootOf_0 10 rfl rfl)
theorem dX5_rootOf_13 : decode cX5_rootOf 13 = .ok (.iinc 1 1, 3) := dk_132 1 1 (dk_at dksX5_rootOf_0 13 rfl rfl)
theorem dX5_rootOf_16 : decode cX5_rootOf 16 = .ok (.goto (-14), 3) := dk_167 255 242 (dk_at dksX5_rootOf_0 16 rfl rfl)
theorem dX5_rootOf_19 : decode cX5_rootOf 19 = .ok (.iload_n 1, 1) := dk_27 (dk_at dksX5_rootOf_0 19 rfl rfl)
theorem dX5_rootOf_20 : decode cX5_rootOf 20 = .ok (.ireturn, 1) := dk_172 (dk_at dksX5_rootOf_0 20 rfl rfl)
abbrev cX5_listed : ByteArray := prog_9_method_45_code
def yX5_listed : MethodName := ⟨RX5, "listed", "(III)I"⟩
def dkwX5_listed_2 : List UInt8 := [182, 0, 187, 54, 5, 42, 27, 42, 180, 0, 32, 182, 0, 102, 4, 172]
abbrev dktX5_listed_2 : List UInt8 := dkwX5_listed_2 ++ []
def dkwX5_listed_1 : List UInt8 := [172, 42, 28, 3, 2, 182, 0, 187, 54, 4, 29, 21, 4, 161, 0, 6, 16, 252, 172, 42, 28, 3, 29]
abbrev dktX5_listed_1 : List UInt8 := dkwX5_listed_1 ++ dktX5_listed_2
def dkwX5_listed_0 : List UInt8 := [27, 184, 0, 91, 153, 0, 19, 28, 133, 10, 20, 0, 185, 184, 0, 65, 153, 0, 7, 29, 156, 0, 5, 2]
abbrev dktX5_listed_0 : List UInt8 := dkwX5_listed_0 ++ dktX5_listed_1
theorem dksX5_listed_0 : cX5_listed.data.toList.drop 0 = dktX5_listed_0 := by decide +kernel
theorem dksX5_listed_1 : cX5_listed.data.toList.drop 24 = dktX5_listed_1 := dk_seg dksX5_listed_0 24 rfl rfl
theorem dksX5_listed_2 : cX5_listed.data.toList.drop 47 = dktX5_listed_2 := dk_seg dksX5_listed_1 23 rfl rfl
theorem dX5_listed_0 : decode cX5_listed 0 = .ok (.iload_n 1, 1) := dk_27 (dk_at dksX5_listed_0 0 rfl rfl)
theorem dX5_listed_1 : decode cX5_listed 1 = .ok (.invokestatic 91, 3) := dk_184 0 91 (dk_at dksX5_listed_0 1 rfl rfl)
theorem dX5_listed_4 : decode cX5_listed 4 = .ok (.ifCond .eq 19, 3) := dk_153 0 19 (dk_at dksX5_listed_0 4 rfl rfl)
theorem dX5_listed_7 : decode cX5_listed 7 = .ok (.iload_n 2, 1) := dk_28 (dk_at dksX5_listed_0 7 rfl rfl)
theorem dX5_listed_8 : decode cX5_listed 8 = .ok (.i2l, 1) := dk_133 (dk_at dksX5_listed_0 8 rfl rfl)
theorem dX5_listed_9 : decode cX5_listed 9 = .ok (.lconst 1, 1) := dk_10 (dk_at dksX5_listed_0 9 rfl rfl)
theorem dX5_listed_10 : decode cX5_listed 10 = .ok (.ldc2_w 185, 3) := dk_20 0 185 (dk_at dksX5_listed_0 10 rfl rfl)
theorem dX5_listed_13 : decode cX5_listed 13 = .ok (.invokestatic 65, 3) := dk_184 0 65 (dk_at dksX5_listed_0 13 rfl rfl)
theorem dX5_listed_16 : decode cX5_listed 16 = .ok (.ifCond .eq 7, 3) := dk_153 0 7 (dk_at dksX5_listed_0 16 rfl rfl)
theorem dX5_listed_19 : decode cX5_listed 19 = .ok (.iload_n 3, 1) := dk_29 (dk_at dksX5_listed_0 19 rfl rfl)
theorem dX5_listed_20 : decode cX5_listed 20 = .ok (.ifCond .ge 5, 3) := dk_156 0 5 (dk_at dksX5_listed_0 20 rfl rfl)
theorem dX5_listed_23 : decode cX5_listed 23 = .ok (.iconst (-1), 1) := dk_2 (dk_at dksX5_listed_0 23 rfl rfl)
theorem dX5_listed_24 : decode cX5_listed 24 = .ok (.ireturn, 1) := dk_172 (dk_at dksX5_listed_1 0 rfl rfl)
theorem dX5_listed_25 : decode cX5_listed 25 = .ok (.aload_n 0, 1) := dk_42 (dk_at dksX5_listed_1 1 rfl rfl)
theorem dX5_listed_26 : decode cX5_listed 26 = .ok (.iload_n 2, 1) := dk_28 (dk_at dksX5_listed_1 2 rfl rfl)
theorem dX5_listed_27 : decode cX5_listed 27 = .ok (.iconst 0, 1) := dk_3 (dk_at dksX5_listed_1 3 rfl rfl)
theorem dX5_listed_28 : decode cX5_listed 28 = .ok (.iconst (-1), 1) := dk_2 (dk_at dksX5_listed_1 4 rfl rfl)
theorem dX5_listed_29 : decode cX5_listed 29 = .ok (.invokevirtual 187, 3) := dk_182 0 187 (dk_at dksX5_listed_1 5 rfl rfl)
theorem dX5_listed_32 : decode cX5_listed 32 = .ok (.istore 4, 2) := dk_54 4 (dk_at dksX5_listed_1 8 rfl rfl)
theorem dX5_listed_34 : decode cX5_listed 34 = .ok (.iload_n 3, 1) := dk_29 (dk_at dksX5_listed_1 10 rfl rfl)
theorem dX5_listed_35 : decode cX5_listed 35 = .ok (.iload 4, 2) := dk_21 4 (dk_at dksX5_listed_1 11 rfl rfl)
theorem dX5_listed_37 : decode cX5_listed 37 = .ok (.if_icmp .lt 6, 3) := dk_161 0 6 (dk_at dksX5_listed_1 13 rfl rfl)
theorem dX5_listed_40 : decode cX5_listed 40 = .ok (.bipush (-4), 2) := dk_16 252 (dk_at dksX5_listed_1 16 rfl rfl)
theorem dX5_listed_42 : decode cX5_listed 42 = .ok (.ireturn, 1) := dk_172 (dk_at dksX5_listed_1 18 rfl rfl)
theorem dX5_listed_43 : decode cX5_listed 43 = .ok (.aload_n 0, 1) := dk_42 (dk_at dksX5_listed_1 19 rfl rfl)
theorem dX5_listed_44 : decode cX5_listed 44 = .ok (.iload_n 2, 1) := dk_28 (dk_at dksX5_listed_1 20 rfl rfl)
theorem dX5_listed_45 : decode cX5_listed 45 = .ok (.iconst 0, 1) := dk_3 (dk_at dksX5_listed_1 21 rfl rfl)
theorem dX5_listed_46 : decode cX5_listed 46 = .ok (.iload_n 3, 1) := dk_29 (dk_at dksX5_listed_1 22 rfl rfl)
theorem dX5_listed_47 : decode cX5_listed 47 = .ok (.invokevirtual 187, 3) := dk_182 0 187 (dk_at dksX5_listed_2 0 rfl rfl)
theorem dX5_listed_50 : decode cX5_listed 50 = .ok (.istore 5, 2) := dk_54 5 (dk_at dksX5_listed_2 3 rfl rfl)
theorem dX5_listed_52 : decode cX5_listed 52 = .ok (.aload_n 0, 1) := dk_42 (dk_at dksX5_listed_2 5 rfl rfl)
theorem dX5_listed_53 : decode cX5_listed 53 = .ok (.iload_n 1, 1) := dk_27 (dk_at dksX5_listed_2 6 rfl rfl)
theorem dX5_listed_54 : decode cX5_listed 54 = .ok (.aload_n 0, 1) := dk_42 (dk_at dksX5_listed_2 7 rfl rfl)
theorem dX5_listed_55 : decode cX5_listed 55 = .ok (.getfield 32, 3) := dk_180 0 32 (dk_at dksX5_listed_2 8 rfl rfl)
theorem dX5_listed_58 : decode cX5_listed 58 = .ok (.invokevirtual 102, 3) := dk_182 0 102 (dk_at dksX5_listed_2 11 rfl rfl)
theorem dX5_listed_61 : decode cX5_listed 61 = .ok (.iconst 1, 1) := dk_4 (dk_at dksX5_listed_2 14 rfl rfl)
theorem dX5_listed_62 : decode cX5_listed 62 = .ok (.ireturn, 1) := dk_172 (dk_at dksX5_listed_2 15 rfl rfl)
abbrev cX5_turn : ByteArray := prog_9_method_47_code
def yX5_turn : MethodName := ⟨RX5, "turn", "(III)I"⟩
def dkwX5_turn_2 : List UInt8 := [180, 0, 32, 184, 0, 112, 153, 0, 8, 18, 191, 167, 0, 11, 42, 27, 28, 29, 182, 0, 192, 136, 172]
abbrev dktX5_turn_2 : List UInt8 := dkwX5_turn_2 ++ []
def dkwX5_turn_1 : List UInt8 := [20, 0, 77, 184, 0, 65, 154, 0, 6, 18, 190, 172, 42, 42, 180, 0, 32, 27, 182, 0, 122, 42]
abbrev dktX5_turn_1 : List UInt8 := dkwX5_turn_1 ++ dktX5_turn_2
def dkwX5_turn_0 : List UInt8 := [27, 184, 0, 91, 153, 0, 27, 28, 133, 9, 20, 0, 77, 184, 0, 65, 153, 0, 15, 29, 133, 9]
abbrev dktX5_turn_0 : List UInt8 := dkwX5_turn_0 ++ dktX5_turn_1
theorem dksX5_turn_0 : cX5_turn.data.toList.drop 0 = dktX5_turn_0 := by decide +kernel
theorem dksX5_turn_1 : cX5_turn.data.toList.drop 22 = dktX5_turn_1 := dk_seg dksX5_turn_0 22 rfl rfl
theorem dksX5_turn_2 : cX5_turn.data.toList.drop 44 = dktX5_turn_2 := dk_seg dksX5_turn_1 22 rfl rfl
theorem dX5_turn_0 : decode cX5_turn 0 = .ok (.iload_n 1, 1) := dk_27 (dk_at dksX5_turn_0 0 rfl rfl)
theorem dX5_turn_1 : decode cX5_turn 1 = .ok (.invokestatic 91, 3) := dk_184 0 91 (dk_at dksX5_turn_0 1 rfl rfl)
theorem dX5_turn_4 : decode cX5_turn 4 = .ok (.ifCond .eq 27, 3) := dk_153 0 27 (dk_at dksX5_turn_0 4 rfl rfl)
theorem dX5_turn_7 : decode cX5_turn 7 = .ok (.iload_n 2, 1) := dk_28 (dk_at dksX5_turn_0 7 rfl rfl)
theorem dX5_turn_8 : decode cX5_turn 8 = .ok (.i2l, 1) := dk_133 (dk_at dksX5_turn_0 8 rfl rfl)
theorem dX5_turn_9 : decode cX5_turn 9 = .ok (.lconst 0, 1) := dk_9 (dk_at dksX5_turn_0 9 rfl rfl)
theorem dX5_turn_10 : decode cX5_turn 10 = .ok (.ldc2_w 77, 3) := dk_20 0 77 (dk_at dksX5_turn_0 10 rfl rfl)
theorem dX5_turn_13 : decode cX5_turn 13 = .ok (.invokestatic 65, 3) := dk_184 0 65 (dk_at dksX5_turn_0 13 rfl rfl)
theorem dX5_turn_16 : decode cX5_turn 16 = .ok (.ifCond .eq 15, 3) := dk_153 0 15 (dk_at dksX5_turn_0 16 rfl rfl)
theorem dX5_turn_19 : decode cX5_turn 19 = .ok (.iload_n 3, 1) := dk_29 (dk_at dksX5_turn_0 19 rfl rfl)
theorem dX5_turn_20 : decode cX5_turn 20 = .ok (.i2l, 1) := dk_133 (dk_at dksX5_turn_0 20 rfl rfl)
theorem dX5_turn_21 : decode cX5_turn 21 = .ok (.lconst 0, 1) := dk_9 (dk_at dksX5_turn_0 21 rfl rfl)
theorem dX5_turn_22 : decode cX5_turn 22 = .ok (.ldc2_w 77, 3) := dk_20 0 77 (dk_at dksX5_turn_1 0 rfl rfl)
theorem dX5_turn_25 : decode cX5_turn 25 = .ok (.invokestatic 65, 3) := dk_184 0 65 (dk_at dksX5_turn_1 3 rfl rfl)
theorem dX5_turn_28 : decode cX5_turn 28 = .ok (.ifCond .ne 6, 3) := dk_154 0 6 (dk_at dksX5_turn_1 6 rfl rfl)
theorem dX5_turn_31 : decode cX5_turn 31 = .ok (.ldc 190, 2) := dk_18 190 (dk_at dksX5_turn_1 9 rfl rfl)
theorem dX5_turn_33 : decode cX5_turn 33 = .ok (.ireturn, 1) := dk_172 (dk_at dksX5_turn_1 11 rfl rfl)
theorem dX5_turn_34 : decode cX5_turn 34 = .ok (.aload_n 0, 1) := dk_42 (dk_at dksX5_turn_1 12 rfl rfl)
theorem dX5_turn_35 : decode cX5_turn 35 = .ok (.aload_n 0, 1) := dk_42 (dk_at dksX5_turn_1 13 rfl rfl)
theorem dX5_turn_36 : decode cX5_turn 36 = .ok (.getfield 32, 3) := dk_180 0 32 (dk_at dksX5_turn_1 14 rfl rfl)
theorem dX5_turn_39 : decode cX5_turn 39 = .ok (.iload_n 1, 1) := dk_27 (dk_at dksX5_turn_1 17 rfl rfl)
theorem dX5_turn_40 : decode cX5_turn 40 = .ok (.invokevirtual 122, 3) := dk_182 0 122 (dk_at dksX5_turn_1 18 rfl rfl)
theorem dX5_turn_43 : decode cX5_turn 43 = .ok (.aload_n 0, 1) := dk_42 (dk_at dksX5_turn_1 21 rfl rfl)
theorem dX5_turn_44 : decode cX5_turn 44 = .ok (.getfield 32, 3) := dk_180 0 32 (dk_at dksX5_turn_2 0 rfl rfl)
theorem dX5_turn_47 : decode cX5_turn 47 = .ok (.invokestatic 112, 3) := dk_184 0 112 (dk_at dksX5_turn_2 3 rfl rfl)
theorem dX5_turn_50 : decode cX5_turn 50 = .ok (.ifCond .eq 8, 3) := dk_153 0 8 (dk_at dksX5_turn_2 6 rfl rfl)
theorem dX5_turn_53 : decode cX5_turn 53 = .ok (.ldc 191, 2) := dk_18 191 (dk_at dksX5_turn_2 9 rfl rfl)
theorem dX5_turn_55 : decode cX5_turn 55 = .ok (.goto 11, 3) := dk_167 0 11 (dk_at dksX5_turn_2 11 rfl rfl)
theorem dX5_turn_58 : decode cX5_turn 58 = .ok (.aload_n 0, 1) := dk_42 (dk_at dksX5_turn_2 14 rfl rfl)
theorem dX5_turn_59 : decode cX5_turn 59 = .ok (.iload_n 1, 1) := dk_27 (dk_at dksX5_turn_2 15 rfl rfl)
theorem dX5_turn_60 : decode cX5_turn 60 = .ok (.iload_n 2, 1) := dk_28 (dk_at dksX5_turn_2 16 rfl rfl)
theorem dX5_turn_61 : decode cX5_turn 61 = .ok (.iload_n 3, 1) := dk_29 (dk_at dksX5_turn_2 17 rfl rfl)
theorem dX5_turn_62 : decode cX5_turn 62 = .ok (.invokevirtual 192, 3) := dk_182 0 192 (dk_at dksX5_turn_2 18 rfl rfl)
theorem dX5_turn_65 : decode cX5_turn 65 = .ok (.l2i, 1) := dk_136 (dk_at dksX5_turn_2 21 rfl rfl)
theorem dX5_turn_66 : decode cX5_turn 66 = .ok (.ireturn, 1) := dk_172 (dk_at dksX5_turn_2 22 rfl rfl)
abbrev cX5_entry : ByteArray := prog_9_method_46_code
def yX5_entry : MethodName := ⟨RX5, "entry", "(III)J"⟩
def dkwX5_entry_8 : List UInt8 := [109, 173]
abbrev dktX5_entry_8 : List UInt8 := dkwX5_entry_8 ++ []
def dkwX5_entry_7 : List UInt8 := [105, 21, 13, 153, 0, 12, 22, 4, 117, 22, 11, 105, 167, 0, 8, 22, 4, 22, 11, 105, 97, 20, 0, 77]
abbrev dktX5_entry_7 : List UInt8 := dkwX5_entry_7 ++ dktX5_entry_8
def dkwX5_entry_6 : List UInt8 := [46, 133, 55, 11, 29, 28, 4, 96, 6, 112, 160, 0, 7, 4, 167, 0, 4, 3, 54, 13, 22, 6, 22, 8]
abbrev dktX5_entry_6 : List UInt8 := dkwX5_entry_6 ++ dktX5_entry_7
def dkwX5_entry_5 : List UInt8 := [20, 0, 106, 109, 173, 6, 28, 100, 29, 100, 54, 10, 42, 180, 0, 20, 7, 27, 104, 4, 96, 21, 10, 96]
abbrev dktX5_entry_5 : List UInt8 := dkwX5_entry_5 ++ dktX5_entry_6
def dkwX5_entry_4 : List UInt8 := [42, 180, 0, 32, 6, 47, 42, 180, 0, 32, 6, 47, 105, 101, 20, 0, 77, 22, 6, 105, 22, 6, 105, 97]
abbrev dktX5_entry_4 : List UInt8 := dkwX5_entry_4 ++ dktX5_entry_5
def dkwX5_entry_3 : List UInt8 := [4, 47, 42, 180, 0, 32, 4, 47, 105, 101, 42, 180, 0, 32, 5, 47, 42, 180, 0, 32, 5, 47, 105, 101]
abbrev dktX5_entry_3 : List UInt8 := dkwX5_entry_3 ++ dktX5_entry_4
def dkwX5_entry_2 : List UInt8 := [180, 0, 32, 27, 182, 0, 122, 42, 180, 0, 32, 3, 47, 42, 180, 0, 32, 3, 47, 105, 42, 180, 0, 32]
abbrev dktX5_entry_2 : List UInt8 := dkwX5_entry_2 ++ dktX5_entry_3
def dkwX5_entry_1 : List UInt8 := [55, 6, 42, 180, 0, 20, 7, 27, 104, 4, 96, 29, 96, 46, 133, 55, 8, 28, 29, 160, 0, 82, 42, 42]
abbrev dktX5_entry_1 : List UInt8 := dkwX5_entry_1 ++ dktX5_entry_2
def dkwX5_entry_0 : List UInt8 := [42, 180, 0, 20, 7, 27, 104, 46, 133, 55, 4, 42, 180, 0, 20, 7, 27, 104, 4, 96, 28, 96, 46, 133]
abbrev dktX5_entry_0 : List UInt8 := dkwX5_entry_0 ++ dktX5_entry_1
theorem dksX5_entry_0 : cX5_entry.data.toList.drop 0 = dktX5_entry_0 := by decide +kernel
theorem dksX5_entry_1 : cX5_entry.data.toList.drop 24 = dktX5_entry_1 := dk_seg dksX5_entry_0 24 rfl rfl
theorem dksX5_entry_2 : cX5_entry.data.toList.drop 48 = dktX5_entry_2 := dk_seg dksX5_entry_1 24 rfl rfl
theorem dksX5_entry_3 : cX5_entry.data.toList.drop 72 = dktX5_entry_3 := dk_seg dksX5_entry_2 24 rfl rfl
theorem dksX5_entry_4 : cX5_entry.data.toList.drop 96 = dktX5_entry_4 := dk_seg dksX5_entry_3 24 rfl rfl
theorem dksX5_entry_5 : cX5_entry.data.toList.drop 120 = dktX5_entry_5 := dk_seg dksX5_entry_4 24 rfl rfl
theorem dksX5_entry_6 : cX5_entry.data.toList.drop 144 = dktX5_entry_6 := dk_seg dksX5_entry_5 24 rfl rfl
theorem dksX5_entry_7 : cX5_entry.data.toList.drop 168 = dktX5_entry_7 := dk_seg dksX5_entry_6 24 rfl rfl
theorem dksX5_entry_8 : cX5_entry.data.toList.drop 192 = dktX5_entry_8 := dk_seg dksX5_entry_7 24 rfl rfl
theorem dX5_entry_0 : decode cX5_entry 0 = .ok (.aload_n 0, 1) := dk_42 (dk_at dksX5_entry_0 0 rfl rfl)
theorem dX5_entry_1 : decode cX5_entry 1 = .ok (.getfield 20, 3) := dk_180 0 20 (dk_at dksX5_entry_0 1 rfl rfl)
theorem dX5_entry_4 : decode cX5_entry 4 = .ok (.iconst 4, 1) := dk_7 (dk_at dksX5_entry_0 4 rfl rfl)
theorem dX5_entry_5 : decode cX5_entry 5 = .ok (.iload_n 1, 1) := dk_27 (dk_at dksX5_entry_0 5 rfl rfl)
theorem dX5_entry_6 : decode cX5_entry 6 = .ok (.imul, 1) := dk_104 (dk_at dksX5_entry_0 6 rfl rfl)
theorem dX5_entry_7 : decode cX5_entry 7 = .ok (.iaload, 1) := dk_46 (dk_at dksX5_entry_0 7 rfl rfl)
theorem dX5_entry_8 : decode cX5_entry 8 = .ok (.i2l, 1) := dk_133 (dk_at dksX5_entry_0 8 rfl rfl)
theorem dX5_entry_9 : decode cX5_entry 9 = .ok (.lstore 4, 2) := dk_55 4 (dk_at dksX5_entry_0 9 rfl rfl)
theorem dX5_entry_11 : decode cX5_entry 11 = .ok (.aload_n 0, 1) := dk_42 (dk_at dksX5_entry_0 11 rfl rfl)
theorem dX5_entry_12 : decode cX5_entry 12 = .ok (.getfield 20, 3) := dk_180 0 20 (dk_at dksX5_entry_0 12 rfl rfl)
theorem dX5_entry_15 : decode cX5_entry 15 = .ok (.iconst 4, 1) := dk_7 (dk_at dksX5_entry_0 15 rfl rfl)
theorem dX5_entry_16 : decode cX5_entry 16 = .ok (.iload_n 1, 1) := dk_27 (dk_at dksX5_entry_0 16 rfl rfl)
theorem dX5_entry_17 : decode cX5_entry 17 = .ok (.imul, 1) := dk_104 (dk_at dksX5_entry_0 17 rfl rfl)
theorem dX5_entry_18 : decode cX5_entry 18 = .ok (.iconst 1, 1) := dk_4 (dk_at dksX5_entry_0 18 rfl rfl)
theorem dX5_entry_19 : decode cX5_entry 19 = .ok (.iadd, 1) := dk_96 (dk_at dksX5_entry_0 19 rfl rfl)
theorem dX5_entry_20 : decode cX5_entry 20 = .ok (.iload_n 2, 1) := dk_28 (dk_at dksX5_entry_0 20 rfl rfl)
theorem dX5_entry_21 : decode cX5_entry 21 = .ok (.iadd, 1) := dk_96 (dk_at dksX5_entry_0 21 rfl rfl)
theorem dX5_entry_22 : decode cX5_entry 22 = .ok (.iaload, 1) := dk_46 (dk_at dksX5_entry_0 22 rfl rfl)
theorem dX5_entry_23 : decode cX5_entry 23 = .ok (.i2l, 1) := dk_133 (dk_at dksX5_entry_0 23 rfl rfl)
theorem dX5_entry_24 : decode cX5_entry 24 = .ok (.lstore 6, 2) := dk_55 6 (dk_at dksX5_entry_1 0 rfl rfl)
theorem dX5_entry_26 : decode cX5_entry 26 = .ok (.aload_n 0, 1) := dk_42 (dk_at dksX5_entry_1 2 rfl rfl)
theorem dX5_entry_27 : decode cX5_entry 27 = .ok (.getfield 20, 3) := dk_180 0 20 (dk_at dksX5_entry_1 3 rfl rfl)
theorem dX5_entry_30 : decode cX5_entry 30 = .ok (.iconst 4, 1) := dk_7 (dk_at dksX5_entry_1 6 rfl rfl)
theorem dX5_entry_31 : decode cX5_entry 31 = .ok (.iload_n 1, 1) := dk_27 (dk_at dksX5_entry_1 7 rfl rfl)
theorem dX5_entry_32 : decode cX5_entry 32 = .ok (.imul, 1) := dk_104 (dk_at dksX5_entry_1 8 rfl rfl)
theorem dX5_entry_33 : decode cX5_entry 33 = .ok (.iconst 1, 1) := dk_4 (dk_at dksX5_entry_1 9 rfl rfl)
theorem dX5_entry_34 : decode cX5_entry 34 = .ok (.iadd, 1) := dk_96 (dk_at dksX5_entry_1 10 rfl rfl)
theorem dX5_entry_35 : decode cX5_entry 35 = .ok (.iload_n 3, 1) := dk_29 (dk_at dksX5_entry_1 11 rfl rfl)
theorem dX5_entry_36 : decode cX5_entry 36 = .ok (.iadd, 1) := dk_96 (dk_at dksX5_entry_1 12 rfl rfl)
theorem dX5_entry_37 : decode cX5_entry 37 = .ok (.iaload, 1) := dk_46 (dk_at dksX5_entry_1 13 rfl rfl)
theorem dX5_entry_38 : decode cX5_entry 38 = .ok (.i2l, 1) := dk_133 (dk_at dksX5_entry_1 14 rfl rfl)
theorem dX5_entry_39 : decode cX5_entry 39 = .ok (.lstore 8, 2) := dk_55 8 (dk_at dksX5_entry_1 15 rfl rfl)
theorem dX5_entry_41 : decode cX5_entry 41 = .ok (.iload_n 2, 1) := dk_28 (dk_at dksX5_entry_1 17 rfl rfl)
theorem dX5_entry_42 : decode cX5_entry 42 = .ok (.iload_n 3, 1) := dk_29 (dk_at dksX5_entry_1 18 rfl rfl)
theorem dX5_entry_43 : decode cX5_entry 43 = .ok (.if_icmp .ne 82, 3) := dk_160 0 82 (dk_at dksX5_entry_1 19 rfl rfl)
theorem dX5_entry_46 : decode cX5_entry 46 = .ok (.aload_n 0, 1) := dk_42 (dk_at dksX5_entry_1 22 rfl rfl)
theorem dX5_entry_47 : decode cX5_entry 47 = .ok (.aload_n 0, 1) := dk_42 (dk_at dksX5_entry_1 23 rfl rfl)
theorem dX5_entry_48 : decode cX5_entry 48 = .ok (.getfield 32, 3) := dk_180 0 32 (dk_at dksX5_entry_2 0 rfl rfl)
theorem dX5_entry_51 : decode cX5_entry 51 = .ok (.iload_n 1, 1) := dk_27 (dk_at dksX5_entry_2 3 rfl rfl)
theorem dX5_entry_52 : decode cX5_entry 52 = .ok (.invokevirtual 122, 3) := dk_182 0 122 (dk_at dksX5_entry_2 4 rfl rfl)
theorem dX5_entry_55 : decode cX5_entry 55 = .ok (.aload_n 0, 1) := dk_42 (dk_at dksX5_entry_2 7 rfl rfl)
theorem dX5_entry_56 : decode cX5_entry 56 = .ok (.getfield 32, 3) := dk_180 0 32 (dk_at dksX5_entry_2 8 rfl rfl)
theorem dX5_entry_59 : decode cX5_entry 59 = .ok (.iconst 0, 1) := dk_3 (dk_at dksX5_entry_2 11 rfl rfl)
theorem dX5_entry_60 : decode cX5_entry 60 = .ok (.laload, 1) := dk_47 (dk_at dksX5_entry_2 12 rfl rfl)
theorem dX5_entry_61 : decode cX5_entry 61 = .ok (.aload_n 0, 1) := dk_42 (dk_at dksX5_entry_2 13 rfl rfl)
theorem dX5_entry_62 : decode cX5_entry 62 = .ok (.getfield 32, 3) := dk_180 0 32 (dk_at dksX5_entry_2 14 rfl rfl)
theorem dX5_entry_65 : decode cX5_entry 65 = .ok (.iconst 0, 1) := dk_3 (dk_at dksX5_entry_2 17 rfl rfl)
theorem dX5_entry_66 : decode cX5_entry 66 = .ok (.laload, 1) := dk_47 (dk_at dksX5_entry_2 18 rfl rfl)
theorem dX5_entry_67 : decode cX5_entry 67 = .ok (.lmul, 1) := dk_105 (dk_at dksX5_entry_2 19 rfl rfl)
theorem dX5_entry_68 : decode cX5_entry 68 = .ok (.aload_n 0, 1) := dk_42 (dk_at dksX5_entry_2 20 rfl rfl)
theorem dX5_entry_69 : decode cX5_entry 69 = .ok (.getfield 32, 3) := dk_180 0 32 (dk_at dksX5_entry_2 21 rfl rfl)
theorem dX5_entry_72 : decode cX5_entry 72 = .ok (.iconst 1, 1) := dk_4 (dk_at dksX5_entry_3 0 rfl rfl)
theorem dX5_entry_73 : decode cX5_entry 73 = .ok (.laload, 1) := dk_47 (dk_at dksX5_entry_3 1 rfl rfl)
theorem dX5_entry_74 : decode cX5_entry 74 = .ok (.aload_n 0, 1) := dk_42 (dk_at dksX5_entry_3 2 rfl rfl)
theorem dX5_entry_75 : decode cX5_entry 75 = .ok (.getfield 32, 3) := dk_180 0 32 (dk_at dksX5_entry_3 3 rfl rfl)
theorem dX5_entry_78 : decode cX5_entry 78 = .ok (.iconst 1, 1) := dk_4 (dk_at dksX5_entry_3 6 rfl rfl)
theorem dX5_entry_79 : decode cX5_entry 79 = .ok (.laload, 1) := dk_47 (dk_at dksX5_entry_3 7 rfl rfl)
theorem dX5_entry_80 : decode cX5_entry 80 = .ok (.lmul, 1) := dk_105 (dk_at dksX5_entry_3 8 rfl rfl)
theorem dX5_entry_81 : decode cX5_entry 81 = .ok (.lsub, 1) := dk_101 (dk_at dksX5_entry_3 9 rfl rfl)
theorem dX5_entry_82 : decode cX5_entry 82 = .ok (.aload_n 0, 1) := dk_42 (dk_at dksX5_entry_3 10 rfl rfl)
theorem dX5_entry_83 : decode cX5_entry 83 = .ok (.getfield 32, 3) := dk_180 0 32 (dk_at dksX5_entry_3 11 rfl rfl)
theorem dX5_entry_86 : decode cX5_entry 86 = .ok (.iconst 2, 1) := dk_5 (dk_at dksX5_entry_3 14 rfl rfl)
theorem dX5_entry_87 : decode cX5_entry 87 = .ok (.laload, 1) := dk_47 (dk_at dksX5_entry_3 15 rfl rfl)
theorem dX5_entry_88 : decode cX5_entry 88 = .ok (.aload_n 0, 1) := dk_42 (dk_at dksX5_entry_3 16 rfl rfl)
theorem dX5_entry_89 : decode cX5_entry 89 = .ok (.getfield 32, 3) := dk_180 0 32 (dk_at dksX5_entry_3 17 rfl rfl)
theorem dX5_entry_92 : decode cX5_entry 92 = .ok (.iconst 2, 1) := dk_5 (dk_at dksX5_entry_3 20 rfl rfl)
theorem dX5_entry_93 : decode cX5_entry 93 = .ok (.laload, 1) := dk_47 (dk_at dksX5_entry_3 21 rfl rfl)
theorem dX5_entry_94 : decode cX5_entry 94 = .ok (.lmul, 1) := dk_105 (dk_at dksX5_entry_3 22 rfl rfl)
theorem dX5_entry_95 : decode cX5_entry 95 = .ok (.lsub, 1) := dk_101 (dk_at dksX5_entry_3 23 rfl rfl)
theorem dX5_entry_96 : decode cX5_entry 96 = .ok (.aload_n 0, 1) := dk_42 (dk_at dksX5_entry_4 0 rfl rfl)
theorem dX5_entry_97 : decode cX5_entry 97 = .ok (.getfield 32, 3) := dk_180 0 32 (dk_at dksX5_entry_4 1 rfl rfl)
theorem dX5_entry_100 : decode cX5_entry 100 = .ok (.iconst 3, 1) := dk_6 (dk_at dksX5_entry_4 4 rfl rfl)
theorem dX5_entry_101 : decode cX5_entry 101 = .ok (.laload, 1) := dk_47 (dk_at dksX5_entry_4 5 rfl rfl)
theorem dX5_entry_102 : decode cX5_entry 102 = .ok (.aload_n 0, 1) := dk_42 (dk_at dksX5_entry_4 6 rfl rfl)
theorem dX5_entry_103 : decode cX5_entry 103 = .ok (.getfield 32, 3) := dk_180 0 32 (dk_at dksX5_entry_4 7 rfl rfl)
theorem dX5_entry_106 : decode cX5_entry 106 = .ok (.iconst 3, 1) := dk_6 (dk_at dksX5_entry_4 10 rfl rfl)
theorem dX5_entry_107 : decode cX5_entry 107 = .ok (.laload, 1) := dk_47 (dk_at dksX5_entry_4 11 rfl rfl)
theorem dX5_entry_108 : decode cX5_entry 108 = .ok (.lmul, 1) := dk_105 (dk_at dksX5_entry_4 12 rfl rfl)
theorem dX5_entry_109 : decode cX5_entry 109 = .ok (.lsub, 1) := dk_101 (dk_at dksX5_entry_4 13 rfl rfl)
theorem dX5_entry_110 : decode cX5_entry 110 = .ok (.ldc2_w 77, 3) := dk_20 0 77 (dk_at dksX5_entry_4 14 rfl rfl)
theorem dX5_entry_113 : decode cX5_entry 113 = .ok (.lload 6, 2) := dk_22 6 (dk_at dksX5_entry_4 17 rfl rfl)
theorem dX5_entry_115 : decode cX5_entry 115 = .ok (.lmul, 1) := dk_105 (dk_at dksX5_entry_4 19 rfl rfl)
theorem dX5_entry_116 : decode cX5_entry 116 = .ok (.lload 6, 2) := dk_22 6 (dk_at dksX5_entry_4 20 rfl rfl)
theorem dX5_entry_118 : decode cX5_entry 118 = .ok (.lmul, 1) := dk_105 (dk_at dksX5_entry_4 22 rfl rfl)
theorem dX5_entry_119 : decode cX5_entry 119 = .ok (.ladd, 1) := dk_97 (dk_at dksX5_entry_4 23 rfl rfl)
theorem dX5_entry_120 : decode cX5_entry 120 = .ok (.ldc2_w 106, 3) := dk_20 0 106 (dk_at dksX5_entry_5 0 rfl rfl)
theorem dX5_entry_123 : decode cX5_entry 123 = .ok (.ldiv, 1) := dk_109 (dk_at dksX5_entry_5 3 rfl rfl)
theorem dX5_entry_124 : decode cX5_entry 124 = .ok (.lreturn, 1) := dk_173 (dk_at dksX5_entry_5 4 rfl rfl)
theorem dX5_entry_125 : decode cX5_entry 125 = .ok (.iconst 3, 1) := dk_6 (dk_at dksX5_entry_5 5 rfl rfl)
theorem dX5_entry_126 : decode cX5_entry 126 = .ok (.iload_n 2, 1) := dk_28 (dk_at dksX5_entry_5 6 rfl rfl)
theorem dX5_entry_127 : decode cX5_entry 127 = .ok (.isub, 1) := dk_100 (dk_at dksX5_entry_5 7 rfl rfl)
theorem dX5_entry_128 : decode cX5_entry 128 = .ok (.iload_n 3, 1) := dk_29 (dk_at dksX5_entry_5 8 rfl rfl)
theorem dX5_entry_129 : decode cX5_entry 129 = .ok (.isub, 1) := dk_100 (dk_at dksX5_entry_5 9 rfl rfl)
theorem dX5_entry_130 : decode cX5_entry 130 = .ok (.istore 10, 2) := dk_54 10 (dk_at dksX5_entry_5 10 rfl rfl)
theorem dX5_entry_132 : decode cX5_entry 132 = .ok (.aload_n 0, 1) := dk_42 (dk_at dksX5_entry_5 12 rfl rfl)
theorem dX5_entry_133 : decode cX5_entry 133 = .ok (.getfield 20, 3) := dk_180 0 20 (dk_at dksX5_entry_5 13 rfl rfl)
theorem dX5_entry_136 : decode cX5_entry 136 = .ok (.iconst 4, 1) := dk_7 (dk_at dksX5_entry_5 16 rfl rfl)
theorem dX5_entry_137 : decode cX5_entry 137 = .ok (.iload_n 1, 1) := dk_27 (dk_at dksX5_entry_5 17 rfl rfl)
theorem dX5_entry_138 : decode cX5_entry 138 = .ok (.imul, 1) := dk_104 (dk_at dksX5_entry_5 18 rfl rfl)
theorem dX5_entry_139 : decode cX5_entry 139 = .ok (.iconst 1, 1) := dk_4 (dk_at dksX5_entry_5 19 rfl rfl)
theorem dX5_entry_140 : decode cX5_entry 140 = .ok (.iadd, 1) := dk_96 (dk_at dksX5_entry_5 20 rfl rfl)
theorem dX5_entry_141 : decode cX5_entry 141 = .ok (.iload 10, 2) := dk_21 10 (dk_at dksX5_entry_5 21 rfl rfl)
theorem dX5_entry_143 : decode cX5_entry 143 = .ok (.iadd, 1) := dk_96 (dk_at dksX5_entry_5 23 rfl rfl)
theorem dX5_entry_144 : decode cX5_entry 144 = .ok (.iaload, 1) := dk_46 (dk_at dksX5_entry_6 0 rfl rfl)
theorem dX5_entry_145 : decode cX5_entry 145 = .ok (.i2l, 1) := dk_133 (dk_at dksX5_entry_6 1 rfl rfl)
theorem dX5_entry_146 : decode cX5_entry 146 = .ok (.lstore 11, 2) := dk_55 11 (dk_at dksX5_entry_6 2 rfl rfl)
theorem dX5_entry_148 : decode cX5_entry 148 = .ok (.iload_n 3, 1) := dk_29 (dk_at dksX5_entry_6 4 rfl rfl)
theorem dX5_entry_149 : decode cX5_entry 149 = .ok (.iload_n 2, 1) := dk_28 (dk_at dksX5_entry_6 5 rfl rfl)
theorem dX5_entry_150 : decode cX5_entry 150 = .ok (.iconst 1, 1) := dk_4 (dk_at dksX5_entry_6 6 rfl rfl)
theorem dX5_entry_151 : decode cX5_entry 151 = .ok (.iadd, 1) := dk_96 (dk_at dksX5_entry_6 7 rfl rfl)
theorem dX5_entry_152 : decode cX5_entry 152 = .ok (.iconst 3, 1) := dk_6 (dk_at dksX5_entry_6 8 rfl rfl)
theorem dX5_entry_153 : decode cX5_entry 153 = .ok (.irem, 1) := dk_112 (dk_at dksX5_entry_6 9 rfl rfl)
theorem dX5_entry_154 : decode cX5_entry 154 = .ok (.if_icmp .ne 7, 3) := dk_160 0 7 (dk_at dksX5_entry_6 10 rfl rfl)
theorem dX5_entry_157 : decode cX5_entry 157 = .ok (.iconst 1, 1) := dk_4 (dk_at dksX5_entry_6 13 rfl rfl)
theorem dX5_entry_158 : decode cX5_entry 158 = .ok (.goto 4, 3) := dk_167 0 4 (dk_at dksX5_entry_6 14 rfl rfl)
theorem dX5_entry_161 : decode cX5_entry 161 = .ok (.iconst 0, 1) := dk_3 (dk_at dksX5_entry_6 17 rfl rfl)
theorem dX5_entry_162 : decode cX5_entry 162 = .ok (.istore 13, 2) := dk_54 13 (dk_at dksX5_entry_6 18 rfl rfl)
theorem dX5_entry_164 : decode cX5_entry 164 = .ok (.lload 6, 2) := dk_22 6 (dk_at dksX5_entry_6 20 rfl rfl)
theorem dX5_entry_166 : decode cX5_entry 166 = .ok (.lload 8, 2) := dk_22 8 (dk_at dksX5_entry_6 22 rfl rfl)
theorem dX5_entry_168 : decode cX5_entry 168 = .ok (.lmul, 1) := dk_105 (dk_at dksX5_entry_7 0 rfl rfl)
theorem dX5_entry_169 : decode cX5_entry 169 = .ok (.iload 13, 2) := dk_21 13 (dk_at dksX5_entry_7 1 rfl rfl)
theorem dX5_entry_171 : decode cX5_entry 171 = .ok (.ifCond .eq 12, 3) := dk_153 0 12 (dk_at dksX5_entry_7 3 rfl rfl)
theorem dX5_entry_174 : decode cX5_entry 174 = .ok (.lload 4, 2) := dk_22 4 (dk_at dksX5_entry_7 6 rfl rfl)
theorem dX5_entry_176 : decode cX5_entry 176 = .ok (.lneg, 1) := dk_117 (dk_at dksX5_entry_7 8 rfl rfl)
theorem dX5_entry_177 : decode cX5_entry 177 = .ok (.lload 11, 2) := dk_22 11 (dk_at dksX5_entry_7 9 rfl rfl)
theorem dX5_entry_179 : decode cX5_entry 179 = .ok (.lmul, 1) := dk_105 (dk_at dksX5_entry_7 11 rfl rfl)
theorem dX5_entry_180 : decode cX5_entry 180 = .ok (.goto 8, 3) := dk_167 0 8 (dk_at dksX5_entry_7 12 rfl rfl)
theorem dX5_entry_183 : decode cX5_entry 183 = .ok (.lload 4, 2) := dk_22 4 (dk_at dksX5_entry_7 15 rfl rfl)
theorem dX5_entry_185 : decode cX5_entry 185 = .ok (.lload 11, 2) := dk_22 11 (dk_at dksX5_entry_7 17 rfl rfl)
theorem dX5_entry_187 : decode cX5_entry 187 = .ok (.lmul, 1) := dk_105 (dk_at dksX5_entry_7 19 rfl rfl)
theorem dX5_entry_188 : decode cX5_entry 188 = .ok (.ladd, 1) := dk_97 (dk_at dksX5_entry_7 20 rfl rfl)
theorem dX5_entry_189 : decode cX5_entry 189 = .ok (.ldc2_w 77, 3) := dk_20 0 77 (dk_at dksX5_entry_7 21 rfl rfl)
theorem dX5_entry_192 : decode cX5_entry 192 = .ok (.ldiv, 1) := dk_109 (dk_at dksX5_entry_8 0 rfl rfl)
theorem dX5_entry_193 : decode cX5_entry 193 = .ok (.lreturn, 1) := dk_173 (dk_at dksX5_entry_8 1 rfl rfl)
abbrev cX5_turned : ByteArray := prog_9_method_48_code
def yX5_turned : MethodName := ⟨RX5, "turned", "(IIIII)J"⟩
def dkwX5_turned_4 : List UInt8 := [182, 0, 192, 21, 4, 133, 105, 97, 173]
abbrev dktX5_turned_4 : List UInt8 := dkwX5_turned_4 ++ []
def dkwX5_turned_3 : List UInt8 := [3, 182, 0, 192, 28, 133, 105, 42, 27, 21, 5, 4, 182, 0, 192, 29, 133, 105, 97, 42, 27, 21, 5, 5]
abbrev dktX5_turned_3 : List UInt8 := dkwX5_turned_3 ++ dktX5_turned_4
def dkwX5_turned_2 : List UInt8 := [153, 0, 16, 21, 5, 133, 9, 20, 0, 77, 184, 0, 65, 154, 0, 7, 20, 0, 75, 173, 42, 27, 21, 5]
abbrev dktX5_turned_2 : List UInt8 := dkwX5_turned_2 ++ dktX5_turned_3
def dkwX5_turned_1 : List UInt8 := [20, 0, 196, 20, 0, 198, 184, 0, 65, 153, 0, 31, 21, 4, 133, 20, 0, 196, 20, 0, 198, 184, 0, 65]
abbrev dktX5_turned_1 : List UInt8 := dkwX5_turned_1 ++ dktX5_turned_2
def dkwX5_turned_0 : List UInt8 := [27, 184, 0, 91, 153, 0, 59, 28, 133, 20, 0, 196, 20, 0, 198, 184, 0, 65, 153, 0, 45, 29, 133]
abbrev dktX5_turned_0 : List UInt8 := dkwX5_turned_0 ++ dktX5_turned_1
theorem dksX5_turned_0 : cX5_turned.data.toList.drop 0 = dktX5_turned_0 := by decide +kernel
theorem dksX5_turned_1 : cX5_turned.data.toList.drop 23 = dktX5_turned_1 := dk_seg dksX5_turned_0 23 rfl rfl
theorem dksX5_turned_2 : cX5_turned.data.toList.drop 47 = dktX5_turned_2 := dk_seg dksX5_turned_1 24 rfl rfl
theorem dksX5_turned_3 : cX5_turned.data.toList.drop 71 = dktX5_turned_3 := dk_seg dksX5_turned_2 24 rfl rfl
theorem dksX5_turned_4 : cX5_turned.data.toList.drop 95 = dktX5_turned_4 := dk_seg dksX5_turned_3 24 rfl rfl
theorem dX5_turned_0 : decode cX5_turned 0 = .ok (.iload_n 1, 1) := dk_27 (dk_at dksX5_turned_0 0 rfl rfl)
theorem dX5_turned_1 : decode cX5_turned 1 = .ok (.invokestatic 91, 3) := dk_184 0 91 (dk_at dksX5_turned_0 1 rfl rfl)
theorem dX5_turned_4 : decode cX5_turned 4 = .ok (.ifCond .eq 59, 3) := dk_153 0 59 (dk_at dksX5_turned_0 4 rfl rfl)
theorem dX5_turned_7 : decode cX5_turned 7 = .ok (.iload_n 2, 1) := dk_28 (dk_at dksX5_turned_0 7 rfl rfl)
theorem dX5_turned_8 : decode cX5_turned 8 = .ok (.i2l, 1) := dk_133 (dk_at dksX5_turned_0 8 rfl rfl)
theorem dX5_turned_9 : decode cX5_turned 9 = .ok (.ldc2_w 196, 3) := dk_20 0 196 (dk_at dksX5_turned_0 9 rfl rfl)
theorem dX5_turned_12 : decode cX5_turned 12 = .ok (.ldc2_w 198, 3) := dk_20 0 198 (dk_at dksX5_turned_0 12 rfl rfl)
theorem dX5_turned_15 : decode cX5_turned 15 = .ok (.invokestatic 65, 3) := dk_184 0 65 (dk_at dksX5_turned_0 15 rfl rfl)
theorem dX5_turned_18 : decode cX5_turned 18 = .ok (.ifCond .eq 45, 3) := dk_153 0 45 (dk_at dksX5_turned_0 18 rfl rfl)
theorem dX5_turned_21 : decode cX5_turned 21 = .ok (.iload_n 3, 1) := dk_29 (dk_at dksX5_turned_0 21 rfl rfl)
theorem dX5_turned_22 : decode cX5_turned 22 = .ok (.i2l, 1) := dk_133 (dk_at dksX5_turned_0 22 rfl rfl)
theorem dX5_turned_23 : decode cX5_turned 23 = .ok (.ldc2_w 196, 3) := dk_20 0 196 (dk_at dksX5_turned_1 0 rfl rfl)
theorem dX5_turned_26 : decode cX5_turned 26 = .ok (.ldc2_w 198, 3) := dk_20 0 198 (dk_at dksX5_turned_1 3 rfl rfl)
theorem dX5_turned_29 : decode cX5_turned 29 = .ok (.invokestatic 65, 3) := dk_184 0 65 (dk_at dksX5_turned_1 6 rfl rfl)
theorem dX5_turned_32 : decode cX5_turned 32 = .ok (.ifCond .eq 31, 3) := dk_153 0 31 (dk_at dksX5_turned_1 9 rfl rfl)
theorem dX5_turned_35 : decode cX5_turned 35 = .ok (.iload 4, 2) := dk_21 4 (dk_at dksX5_turned_1 12 rfl rfl)
theorem dX5_turned_37 : decode cX5_turned 37 = .ok (.i2l, 1) := dk_133 (dk_at dksX5_turned_1 14 rfl rfl)
theorem dX5_turned_38 : decode cX5_turned 38 = .ok (.ldc2_w 196, 3) := dk_20 0 196 (dk_at dksX5_turned_1 15 rfl rfl)
theorem dX5_turned_41 : decode cX5_turned 41 = .ok (.ldc2_w 198, 3) := dk_20 0 198 (dk_at dksX5_turned_1 18 rfl rfl)
theorem dX5_turned_44 : decode cX5_turned 44 = .ok (.invokestatic 65, 3) := dk_184 0 65 (dk_at dksX5_turned_1 21 rfl rfl)
theorem dX5_turned_47 : decode cX5_turned 47 = .ok (.ifCond .eq 16, 3) := dk_153 0 16 (dk_at dksX5_turned_2 0 rfl rfl)
theorem dX5_turned_50 : decode cX5_turned 50 = .ok (.iload 5, 2) := dk_21 5 (dk_at dksX5_turned_2 3 rfl rfl)
theorem dX5_turned_52 : decode cX5_turned 52 = .ok (.i2l, 1) := dk_133 (dk_at dksX5_turned_2 5 rfl rfl)
theorem dX5_turned_53 : decode cX5_turned 53 = .ok (.lconst 0, 1) := dk_9 (dk_at dksX5_turned_2 6 rfl rfl)
theorem dX5_turned_54 : decode cX5_turned 54 = .ok (.ldc2_w 77, 3) := dk_20 0 77 (dk_at dksX5_turned_2 7 rfl rfl)
theorem dX5_turned_57 : decode cX5_turned 57 = .ok (.invokestatic 65, 3) := dk_184 0 65 (dk_at dksX5_turned_2 10 rfl rfl)
theorem dX5_turned_60 : decode cX5_turned 60 = .ok (.ifCond .ne 7, 3) := dk_154 0 7 (dk_at dksX5_turned_2 13 rfl rfl)
theorem dX5_turned_63 : decode cX5_turned 63 = .ok (.ldc2_w 75, 3) := dk_20 0 75 (dk_at dksX5_turned_2 16 rfl rfl)
theorem dX5_turned_66 : decode cX5_turned 66 = .ok (.lreturn, 1) := dk_173 (dk_at dksX5_turned_2 19 rfl rfl)
theorem dX5_turned_67 : decode cX5_turned 67 = .ok (.aload_n 0, 1) := dk_42 (dk_at dksX5_turned_2 20 rfl rfl)
theorem dX5_turned_68 : decode cX5_turned 68 = .ok (.iload_n 1, 1) := dk_27 (dk_at dksX5_turned_2 21 rfl rfl)
theorem dX5_turned_69 : decode cX5_turned 69 = .ok (.iload 5, 2) := dk_21 5 (dk_at dksX5_turned_2 22 rfl rfl)
theorem dX5_turned_71 : decode cX5_turned 71 = .ok (.iconst 0, 1) := dk_3 (dk_at dksX5_turned_3 0 rfl rfl)
theorem dX5_turned_72 : decode cX5_turned 72 = .ok (.invokevirtual 192, 3) := dk_182 0 192 (dk_at dksX5_turned_3 1 rfl rfl)
theorem dX5_turned_75 : decode cX5_turned 75 = .ok (.iload_n 2, 1) := dk_28 (dk_at dksX5_turned_3 4 rfl rfl)
theorem dX5_turned_76 : decode cX5_turned 76 = .ok (.i2l, 1) := dk_133 (dk_at dksX5_turned_3 5 rfl rfl)
theorem dX5_turned_77 : decode cX5_turned 77 = .ok (.lmul, 1) := dk_105 (dk_at dksX5_turned_3 6 rfl rfl)
theorem dX5_turned_78 : decode cX5_turned 78 = .ok (.aload_n 0, 1) := dk_42 (dk_at dksX5_turned_3 7 rfl rfl)
theorem dX5_turned_79 : decode cX5_turned 79 = .ok (.iload_n 1, 1) := dk_27 (dk_at dksX5_turned_3 8 rfl rfl)
theorem dX5_turned_80 : decode cX5_turned 80 = .ok (.iload 5, 2) := dk_21 5 (dk_at dksX5_turned_3 9 rfl rfl)
theorem dX5_turned_82 : decode cX5_turned 82 = .ok (.iconst 1, 1) := dk_4 (dk_at dksX5_turned_3 11 rfl rfl)
theorem dX5_turned_83 : decode cX5_turned 83 = .ok (.invokevirtual 192, 3) := dk_182 0 192 (dk_at dksX5_turned_3 12 rfl rfl)
theorem dX5_turned_86 : decode cX5_turned 86 = .ok (.iload_n 3, 1) := dk_29 (dk_at dksX5_turned_3 15 rfl rfl)
theorem dX5_turned_87 : decode cX5_turned 87 = .ok (.i2l, 1) := dk_133 (dk_at dksX5_turned_3 16 rfl rfl)
theorem dX5_turned_88 : decode cX5_turned 88 = .ok (.lmul, 1) := dk_105 (dk_at dksX5_turned_3 17 rfl rfl)
theorem dX5_turned_89 : decode cX5_turned 89 = .ok (.ladd, 1) := dk_97 (dk_at dksX5_turned_3 18 rfl rfl)
theorem dX5_turned_90 : decode cX5_turned 90 = .ok (.aload_n 0, 1) := dk_42 (dk_at dksX5_turned_3 19 rfl rfl)
theorem dX5_turned_91 : decode cX5_turned 91 = .ok (.iload_n 1, 1) := dk_27 (dk_at dksX5_turned_3 20 rfl rfl)
theorem dX5_turned_92 : decode cX5_turned 92 = .ok (.iload 5, 2) := dk_21 5 (dk_at dksX5_turned_3 21 rfl rfl)
theorem dX5_turned_94 : decode cX5_turned 94 = .ok (.iconst 2, 1) := dk_5 (dk_at dksX5_turned_3 23 rfl rfl)
theorem dX5_turned_95 : decode cX5_turned 95 = .ok (.invokevirtual 192, 3) := dk_182 0 192 (dk_at dksX5_turned_4 0 rfl rfl)
theorem dX5_turned_98 : decode cX5_turned 98 = .ok (.iload 4, 2) := dk_21 4 (dk_at dksX5_turned_4 3 rfl rfl)
theorem dX5_turned_100 : decode cX5_turned 100 = .ok (.i2l, 1) := dk_133 (dk_at dksX5_turned_4 5 rfl rfl)
theorem dX5_turned_101 : decode cX5_turned 101 = .ok (.lmul, 1) := dk_105 (dk_at dksX5_turned_4 6 rfl rfl)
theorem dX5_turned_102 : decode cX5_turned 102 = .ok (.ladd, 1) := dk_97 (dk_at dksX5_turned_4 7 rfl rfl)
theorem dX5_turned_103 : decode cX5_turned 103 = .ok (.lreturn, 1) := dk_173 (dk_at dksX5_turned_4 8 rfl rfl)
theorem q24 : (Jvm.Cond.initialized "FourPartsModel") ∈ lw_all := lw_g (lw_at lw_m1 6 rfl) rfl
theorem q565 : (Jvm.Cond.instantiable "FourPartsModel" (18 : Nat)) ∈ lw_all := lw_g (lw_at lw_m3 67 rfl) rfl
theorem q567 : (Jvm.Cond.instanceMethod ({ cls := "FourPartsModel", name := "<init>", desc := "()V" } : Jvm.MethodName)) ∈ lw_all := lw_g (lw_at lw_m3 69 rfl) rfl
theorem q568 : (Jvm.Cond.code ({ cls := "FourPartsModel", name := "<init>", desc := "()V" } : Jvm.MethodName) prog_9_method_1_code (6 : Nat) (Option.none : Option Jvm.ClassFile.FieldType)) ∈ lw_all := lw_g (lw_at lw_m3 70 rfl) rfl
theorem q569 : (Jvm.Cond.methodLink "FourPartsModel" (1 : Nat) ({ cls := "java/lang/Object", name := "<init>", desc := "()V" } : Jvm.MethodName)) ∈ lw_all := lw_g (lw_at lw_m3 71 rfl) rfl
theorem q570 : (Jvm.Cond.methodLink "FourPartsModel" (59 : Nat) ({ cls := "FourPartsModel", name := "isOne", desc := "(JJJJ)Z" } : Jvm.MethodName)) ∈ lw_all := lw_g (lw_at lw_m3 72 rfl) rfl
theorem q571 : (Jvm.Cond.static ({ cls := "FourPartsModel", name := "isOne", desc := "(JJJJ)Z" } : Jvm.MethodName)) ∈ lw_all := lw_g (lw_at lw_m3 73 rfl) rfl
theorem q572 : (Jvm.Cond.code ({ cls := "FourPartsModel", name := "isOne", desc := "(JJJJ)Z" } : Jvm.MethodName) prog_9_method_2_code (10 : Nat) (Option.some Jvm.ClassFile.FieldType.boolean)) ∈ lw_all := lw_g (lw_at lw_m3 74 rfl) rfl
theorem q573 : (Jvm.Cond.fieldLink "FourPartsModel" (7 : Nat) "FourPartsModel" "kind" "[I") ∈ lw_all := lw_g (lw_at lw_m3 75 rfl) rfl
theorem q574 : (Jvm.Cond.fieldLink "FourPartsModel" (13 : Nat) "FourPartsModel" "size" "[I") ∈ lw_all := lw_g (lw_at lw_m3 76 rfl) rfl
theorem q575 : (Jvm.Cond.fieldLink "FourPartsModel" (16 : Nat) "FourPartsModel" "sheets" "[J") ∈ lw_all := lw_g (lw_at lw_m3 77 rfl) rfl
theorem q576 : (Jvm.Cond.fieldLink "FourPartsModel" (20 : Nat) "FourPartsModel" "registers" "[I") ∈ lw_all := lw_g (lw_at lw_m3 78 rfl) rfl
theorem q577 : (Jvm.Cond.fieldLink "FourPartsModel" (23 : Nat) "FourPartsModel" "units" "[I") ∈ lw_all := lw_g (lw_at lw_m3 79 rfl) rfl
theorem q578 : (Jvm.Cond.fieldLink "FourPartsModel" (177 : Nat) "FourPartsModel" "factors" "I") ∈ lw_all := lw_g (lw_at lw_m3 80 rfl) rfl
theorem q579 : (Jvm.Cond.fieldLink "FourPartsModel" (26 : Nat) "FourPartsModel" "factor" "[J") ∈ lw_all := lw_g (lw_at lw_m3 81 rfl) rfl
theorem q580 : (Jvm.Cond.fieldLink "FourPartsModel" (29 : Nat) "FourPartsModel" "middle" "[J") ∈ lw_all := lw_g (lw_at lw_m3 82 rfl) rfl
theorem q581 : (Jvm.Cond.fieldLink "FourPartsModel" (32 : Nat) "FourPartsModel" "x" "[J") ∈ lw_all := lw_g (lw_at lw_m3 83 rfl) rfl
theorem q582 : (Jvm.Cond.fieldLink "FourPartsModel" (35 : Nat) "FourPartsModel" "y" "[J") ∈ lw_all := lw_g (lw_at lw_m3 84 rfl) rfl
theorem q583 : (Jvm.Cond.fieldLink "FourPartsModel" (38 : Nat) "FourPartsModel" "z" "[J") ∈ lw_all := lw_g (lw_at lw_m3 85 rfl) rfl
theorem q584 : (Jvm.Cond.fieldLink "FourPartsModel" (41 : Nat) "FourPartsModel" "rest" "[J") ∈ lw_all := lw_g (lw_at lw_m3 86 rfl) rfl
theorem q585 : (Jvm.Cond.fieldLink "FourPartsModel" (44 : Nat) "FourPartsModel" "best" "[J") ∈ lw_all := lw_g (lw_at lw_m3 87 rfl) rfl
theorem q586 : (Jvm.Cond.fieldLink "FourPartsModel" (47 : Nat) "FourPartsModel" "quotient" "[J") ∈ lw_all := lw_g (lw_at lw_m3 88 rfl) rfl
theorem q587 : (Jvm.Cond.fieldLink "FourPartsModel" (50 : Nat) "FourPartsModel" "w" "[J") ∈ lw_all := lw_g (lw_at lw_m3 89 rfl) rfl
theorem q588 : (Jvm.Cond.fieldLink "FourPartsModel" (53 : Nat) "FourPartsModel" "turnedOver" "[J") ∈ lw_all := lw_g (lw_at lw_m3 90 rfl) rfl
theorem q589 : (Jvm.Cond.fieldLink "FourPartsModel" (56 : Nat) "FourPartsModel" "left" "[J") ∈ lw_all := lw_g (lw_at lw_m3 91 rfl) rfl
theorem q590 : (Jvm.Cond.laysFinal "FourPartsModel" "FourPartsModel" "kind" "[I") ∈ lw_all := lw_g (lw_at lw_m3 92 rfl) rfl
theorem q591 : (Jvm.Cond.soleField "FourPartsModel" "kind") ∈ lw_all := lw_g (lw_at lw_m3 93 rfl) rfl
theorem q592 : (Jvm.Cond.laysFinal "FourPartsModel" "FourPartsModel" "size" "[I") ∈ lw_all := lw_g (lw_at lw_m3 94 rfl) rfl
theorem q593 : (Jvm.Cond.soleField "FourPartsModel" "size") ∈ lw_all := lw_g (lw_at lw_m3 95 rfl) rfl
theorem q594 : (Jvm.Cond.laysFinal "FourPartsModel" "FourPartsModel" "sheets" "[J") ∈ lw_all := lw_g (lw_at lw_m3 96 rfl) rfl
theorem q595 : (Jvm.Cond.soleField "FourPartsModel" "sheets") ∈ lw_all := lw_g (lw_at lw_m3 97 rfl) rfl
theorem q596 : (Jvm.Cond.laysFinal "FourPartsModel" "FourPartsModel" "registers" "[I") ∈ lw_all := lw_g (lw_at lw_m3 98 rfl) rfl
theorem q597 : (Jvm.Cond.soleField "FourPartsModel" "registers") ∈ lw_all := lw_g (lw_at lw_m3 99 rfl) rfl
theorem q598 : (Jvm.Cond.laysFinal "FourPartsModel" "FourPartsModel" "units" "[I") ∈ lw_all := lw_g (lw_at lw_m3 100 rfl) rfl
theorem q599 : (Jvm.Cond.soleField "FourPartsModel" "units") ∈ lw_all := lw_g (lw_at lw_m3 101 rfl) rfl
theorem q600 : (Jvm.Cond.lays "FourPartsModel" "FourPartsModel" "factors" "I") ∈ lw_all := lw_g (lw_at lw_m3 102 rfl) rfl
theorem q601 : (Jvm.Cond.soleField "FourPartsModel" "factors") ∈ lw_all := lw_g (lw_at lw_m3 103 rfl) rfl
theorem q602 : (Jvm.Cond.laysFinal "FourPartsModel" "FourPartsModel" "factor" "[J") ∈ lw_all := lw_g (lw_at lw_m3 104 rfl) rfl
theorem q603 : (Jvm.Cond.soleField "FourPartsModel" "factor") ∈ lw_all := lw_g (lw_at lw_m3 105 rfl) rfl
theorem q604 : (Jvm.Cond.laysFinal "FourPartsModel" "FourPartsModel" "middle" "[J") ∈ lw_all := lw_g (lw_at lw_m3 106 rfl) rfl
theorem q605 : (Jvm.Cond.soleField "FourPartsModel" "middle") ∈ lw_all := lw_g (lw_at lw_m3 107 rfl) rfl
theorem q606 : (Jvm.Cond.laysFinal "FourPartsModel" "FourPartsModel" "x" "[J") ∈ lw_all := lw_g (lw_at lw_m3 108 rfl) rfl
theorem q607 : (Jvm.Cond.soleField "FourPartsModel" "x") ∈ lw_all := lw_g (lw_at lw_m3 109 rfl) rfl
theorem q608 : (Jvm.Cond.laysFinal "FourPartsModel" "FourPartsModel" "y" "[J") ∈ lw_all := lw_g (lw_at lw_m3 110 rfl) rfl
theorem q609 : (Jvm.Cond.soleField "FourPartsModel" "y") ∈ lw_all := lw_g (lw_at lw_m3 111 rfl) rfl
theorem q610 : (Jvm.Cond.laysFinal "FourPartsModel" "FourPartsModel" "z" "[J") ∈ lw_all := lw_g (lw_at lw_m3 112 rfl) rfl
theorem q611 : (Jvm.Cond.soleField "FourPartsModel" "z") ∈ lw_all := lw_g (lw_at lw_m3 113 rfl) rfl
theorem q612 : (Jvm.Cond.laysFinal "FourPartsModel" "FourPartsModel" "rest" "[J") ∈ lw_all := lw_g (lw_at lw_m3 114 rfl) rfl
theorem q613 : (Jvm.Cond.soleField "FourPartsModel" "rest") ∈ lw_all := lw_g (lw_at lw_m3 115 rfl) rfl
theorem q614 : (Jvm.Cond.laysFinal "FourPartsModel" "FourPartsModel" "best" "[J") ∈ lw_all := lw_g (lw_at lw_m3 116 rfl) rfl
theorem q615 : (Jvm.Cond.soleField "FourPartsModel" "best") ∈ lw_all := lw_g (lw_at lw_m3 117 rfl) rfl
theorem q616 : (Jvm.Cond.laysFinal "FourPartsModel" "FourPartsModel" "quotient" "[J") ∈ lw_all := lw_g (lw_at lw_m3 118 rfl) rfl
theorem q617 : (Jvm.Cond.soleField "FourPartsModel" "quotient") ∈ lw_all := lw_g (lw_at lw_m3 119 rfl) rfl
theorem q618 : (Jvm.Cond.laysFinal "FourPartsModel" "FourPartsModel" "w" "[J") ∈ lw_all := lw_g (lw_at lw_m3 120 rfl) rfl
theorem q619 : (Jvm.Cond.soleField "FourPartsModel" "w") ∈ lw_all := lw_g (lw_at lw_m3 121 rfl) rfl
theorem q620 : (Jvm.Cond.laysFinal "FourPartsModel" "FourPartsModel" "turnedOver" "[J") ∈ lw_all := lw_g (lw_at lw_m3 122 rfl) rfl
theorem q621 : (Jvm.Cond.soleField "FourPartsModel" "turnedOver") ∈ lw_all := lw_g (lw_at lw_m3 123 rfl) rfl
theorem q622 : (Jvm.Cond.laysFinal "FourPartsModel" "FourPartsModel" "left" "[J") ∈ lw_all := lw_g (lw_at lw_m3 124 rfl) rfl
theorem q623 : (Jvm.Cond.soleField "FourPartsModel" "left") ∈ lw_all := lw_g (lw_at lw_m3 125 rfl) rfl
theorem q624 : (Jvm.Cond.lays "FourPartsModel" "FourPartsModel" "more" "I") ∈ lw_all := lw_g (lw_at lw_m3 126 rfl) rfl
theorem q625 : (Jvm.Cond.soleField "FourPartsModel" "more") ∈ lw_all := lw_g (lw_at lw_m3 127 rfl) rfl
theorem q626 : (Jvm.Cond.superclass "FourPartsModel" "java/lang/Object") ∈ lw_all := lw_g (lw_at lw_m3 128 rfl) rfl
theorem q628 : (Jvm.Cond.instanceMethod ({ cls := "FourPartsModel", name := "sheet", desc := "(III)I" } : Jvm.MethodName)) ∈ lw_all := lw_g (lw_at lw_m3 130 rfl) rfl
theorem q629 : (Jvm.Cond.selects "FourPartsModel" ({ cls := "FourPartsModel", name := "sheet", desc := "(III)I" } : Jvm.MethodName) ({ cls := "FourPartsModel", name := "sheet", desc := "(III)I" } : Jvm.MethodName)) ∈ lw_all := lw_g (lw_at lw_m3 131 rfl) rfl
theorem q630 : (Jvm.Cond.code ({ cls := "FourPartsModel", name := "sheet", desc := "(III)I" } : Jvm.MethodName) prog_9_method_6_code (5 : Nat) (Option.some Jvm.ClassFile.FieldType.int)) ∈ lw_all := lw_g (lw_at lw_m3 132 rfl) rfl
theorem q631 : (Jvm.Cond.methodLink "FourPartsModel" (71 : Nat) ({ cls := "FourPartsModel", name := "isSheet", desc := "(I)Z" } : Jvm.MethodName)) ∈ lw_all := lw_g (lw_at lw_m3 133 rfl) rfl
theorem q632 : (Jvm.Cond.static ({ cls := "FourPartsModel", name := "isSheet", desc := "(I)Z" } : Jvm.MethodName)) ∈ lw_all := lw_g (lw_at lw_m3 134 rfl) rfl
theorem q633 : (Jvm.Cond.code ({ cls := "FourPartsModel", name := "isSheet", desc := "(I)Z" } : Jvm.MethodName) prog_9_method_4_code (1 : Nat) (Option.some Jvm.ClassFile.FieldType.boolean)) ∈ lw_all := lw_g (lw_at lw_m3 135 rfl) rfl
theorem q634 : (Jvm.Cond.constantLong "FourPartsModel" (63 : Nat) (5 : Int64)) ∈ lw_all := lw_g (lw_at lw_m3 136 rfl) rfl
theorem q635 : (Jvm.Cond.methodLink "FourPartsModel" (65 : Nat) ({ cls := "FourPartsModel", name := "in", desc := "(JJJ)Z" } : Jvm.MethodName)) ∈ lw_all := lw_g (lw_at lw_m3 137 rfl) rfl
theorem q636 : (Jvm.Cond.static ({ cls := "FourPartsModel", name := "in", desc := "(JJJ)Z" } : Jvm.MethodName)) ∈ lw_all := lw_g (lw_at lw_m3 138 rfl) rfl
theorem q637 : (Jvm.Cond.code ({ cls := "FourPartsModel", name := "in", desc := "(JJJ)Z" } : Jvm.MethodName) prog_9_method_3_code (6 : Nat) (Option.some Jvm.ClassFile.FieldType.boolean)) ∈ lw_all := lw_g (lw_at lw_m3 139 rfl) rfl
theorem q638 : (Jvm.Cond.constantLong "FourPartsModel" (75 : Nat) (-1 : Int64)) ∈ lw_all := lw_g (lw_at lw_m3 140 rfl) rfl
theorem q639 : (Jvm.Cond.constantLong "FourPartsModel" (77 : Nat) (2 : Int64)) ∈ lw_all := lw_g (lw_at lw_m3 141 rfl) rfl
theorem q641 : (Jvm.Cond.instanceMethod ({ cls := "FourPartsModel", name := "put", desc := "(IIJ)I" } : Jvm.MethodName)) ∈ lw_all := lw_g (lw_at lw_m3 143 rfl) rfl
theorem q642 : (Jvm.Cond.selects "FourPartsModel" ({ cls := "FourPartsModel", name := "put", desc := "(IIJ)I" } : Jvm.MethodName) ({ cls := "FourPartsModel", name := "put", desc := "(IIJ)I" } : Jvm.MethodName)) ∈ lw_all := lw_g (lw_at lw_m3 144 rfl) rfl
theorem q643 : (Jvm.Cond.code ({ cls := "FourPartsModel", name := "put", desc := "(IIJ)I" } : Jvm.MethodName) prog_9_method_9_code (6 : Nat) (Option.some Jvm.ClassFile.FieldType.int)) ∈ lw_all := lw_g (lw_at lw_m3 145 rfl) rfl
theorem q644 : (Jvm.Cond.methodLink "FourPartsModel" (79 : Nat) ({ cls := "FourPartsModel", name := "against", desc := "(III)I" } : Jvm.MethodName)) ∈ lw_all := lw_g (lw_at lw_m3 146 rfl) rfl
theorem q645 : (Jvm.Cond.privateMethod ({ cls := "FourPartsModel", name := "against", desc := "(III)I" } : Jvm.MethodName)) ∈ lw_tbl := lw_at lw_m3 147 rfl
theorem q646 : (Jvm.Cond.instanceMethod ({ cls := "FourPartsModel", name := "against", desc := "(III)I" } : Jvm.MethodName)) ∈ lw_all := lw_g (lw_at lw_m3 148 rfl) rfl
theorem q647 : (Jvm.Cond.code ({ cls := "FourPartsModel", name := "against", desc := "(III)I" } : Jvm.MethodName) prog_9_method_8_code (4 : Nat) (Option.some Jvm.ClassFile.FieldType.int)) ∈ lw_all := lw_g (lw_at lw_m3 149 rfl) rfl
theorem q648 : (Jvm.Cond.methodLink "FourPartsModel" (83 : Nat) ({ cls := "FourPartsModel", name := "cut", desc := "(IJ)J" } : Jvm.MethodName)) ∈ lw_all := lw_g (lw_at lw_m3 150 rfl) rfl
theorem q649 : (Jvm.Cond.privateMethod ({ cls := "FourPartsModel", name := "cut", desc := "(IJ)J" } : Jvm.MethodName)) ∈ lw_tbl := lw_at lw_m3 151 rfl
theorem q650 : (Jvm.Cond.instanceMethod ({ cls := "FourPartsModel", name := "cut", desc := "(IJ)J" } : Jvm.MethodName)) ∈ lw_all := lw_g (lw_at lw_m3 152 rfl) rfl
theorem q651 : (Jvm.Cond.code ({ cls := "FourPartsModel", name := "cut", desc := "(IJ)J" } : Jvm.MethodName) prog_9_method_7_code (4 : Nat) (Option.some Jvm.ClassFile.FieldType.long)) ∈ lw_all := lw_g (lw_at lw_m3 153 rfl) rfl
theorem q653 : (Jvm.Cond.instanceMethod ({ cls := "FourPartsModel", name := "copy", desc := "(IIIII)I" } : Jvm.MethodName)) ∈ lw_all := lw_g (lw_at lw_m3 155 rfl) rfl
theorem q654 : (Jvm.Cond.selects "FourPartsModel" ({ cls := "FourPartsModel", name := "copy", desc := "(IIIII)I" } : Jvm.MethodName) ({ cls := "FourPartsModel", name := "copy", desc := "(IIIII)I" } : Jvm.MethodName)) ∈ lw_all := lw_g (lw_at lw_m3 156 rfl) rfl
theorem q655 : (Jvm.Cond.code ({ cls := "FourPartsModel", name := "copy", desc := "(IIIII)I" } : Jvm.MethodName) prog_9_method_10_code (7 : Nat) (Option.some Jvm.ClassFile.FieldType.int)) ∈ lw_all := lw_g (lw_at lw_m3 157 rfl) rfl
theorem q657 : (Jvm.Cond.instanceMethod ({ cls := "FourPartsModel", name := "read", desc := "(III)I" } : Jvm.MethodName)) ∈ lw_all := lw_g (lw_at lw_m3 159 rfl) rfl
theorem q658 : (Jvm.Cond.selects "FourPartsModel" ({ cls := "FourPartsModel", name := "read", desc := "(III)I" } : Jvm.MethodName) ({ cls := "FourPartsModel", name := "read", desc := "(III)I" } : Jvm.MethodName)) ∈ lw_all := lw_g (lw_at lw_m3 160 rfl) rfl
theorem q659 : (Jvm.Cond.code ({ cls := "FourPartsModel", name := "read", desc := "(III)I" } : Jvm.MethodName) prog_9_method_12_code (7 : Nat) (Option.some Jvm.ClassFile.FieldType.int)) ∈ lw_all := lw_g (lw_at lw_m3 161 rfl) rfl
theorem q660 : (Jvm.Cond.methodLink "FourPartsModel" (91 : Nat) ({ cls := "FourPartsModel", name := "isRegister", desc := "(I)Z" } : Jvm.MethodName)) ∈ lw_all := lw_g (lw_at lw_m3 162 rfl) rfl
theorem q661 : (Jvm.Cond.static ({ cls := "FourPartsModel", name := "isRegister", desc := "(I)Z" } : Jvm.MethodName)) ∈ lw_all := lw_g (lw_at lw_m3 163 rfl) rfl
theorem q662 : (Jvm.Cond.code ({ cls := "FourPartsModel", name := "isRegister", desc := "(I)Z" } : Jvm.MethodName) prog_9_method_5_code (1 : Nat) (Option.some Jvm.ClassFile.FieldType.boolean)) ∈ lw_all := lw_g (lw_at lw_m3 164 rfl) rfl
theorem q663 : (Jvm.Cond.constantLong "FourPartsModel" (69 : Nat) (15 : Int64)) ∈ lw_all := lw_g (lw_at lw_m3 165 rfl) rfl
theorem q664 : (Jvm.Cond.methodLink "FourPartsModel" (94 : Nat) ({ cls := "FourPartsModel", name := "isPart", desc := "(J)Z" } : Jvm.MethodName)) ∈ lw_all := lw_g (lw_at lw_m3 166 rfl) rfl
theorem q665 : (Jvm.Cond.static ({ cls := "FourPartsModel", name := "isPart", desc := "(J)Z" } : Jvm.MethodName)) ∈ lw_all := lw_g (lw_at lw_m3 167 rfl) rfl
theorem q666 : (Jvm.Cond.code ({ cls := "FourPartsModel", name := "isPart", desc := "(J)Z" } : Jvm.MethodName) prog_9_method_11_code (2 : Nat) (Option.some Jvm.ClassFile.FieldType.boolean)) ∈ lw_all := lw_g (lw_at lw_m3 168 rfl) rfl
theorem q667 : (Jvm.Cond.constantLong "FourPartsModel" (87 : Nat) (-20000 : Int64)) ∈ lw_all := lw_g (lw_at lw_m3 169 rfl) rfl
theorem q668 : (Jvm.Cond.constantLong "FourPartsModel" (89 : Nat) (20000 : Int64)) ∈ lw_all := lw_g (lw_at lw_m3 170 rfl) rfl
theorem q670 : (Jvm.Cond.instanceMethod ({ cls := "FourPartsModel", name := "write", desc := "(III)I" } : Jvm.MethodName)) ∈ lw_all := lw_g (lw_at lw_m3 172 rfl) rfl
theorem q671 : (Jvm.Cond.selects "FourPartsModel" ({ cls := "FourPartsModel", name := "write", desc := "(III)I" } : Jvm.MethodName) ({ cls := "FourPartsModel", name := "write", desc := "(III)I" } : Jvm.MethodName)) ∈ lw_all := lw_g (lw_at lw_m3 173 rfl) rfl
theorem q672 : (Jvm.Cond.code ({ cls := "FourPartsModel", name := "write", desc := "(III)I" } : Jvm.MethodName) prog_9_method_13_code (6 : Nat) (Option.some Jvm.ClassFile.FieldType.int)) ∈ lw_all := lw_g (lw_at lw_m3 174 rfl) rfl
theorem q674 : (Jvm.Cond.instanceMethod ({ cls := "FourPartsModel", name := "set", desc := "(IIIII)I" } : Jvm.MethodName)) ∈ lw_all := lw_g (lw_at lw_m3 176 rfl) rfl
theorem q675 : (Jvm.Cond.selects "FourPartsModel" ({ cls := "FourPartsModel", name := "set", desc := "(IIIII)I" } : Jvm.MethodName) ({ cls := "FourPartsModel", name := "set", desc := "(IIIII)I" } : Jvm.MethodName)) ∈ lw_all := lw_g (lw_at lw_m3 177 rfl) rfl
theorem q676 : (Jvm.Cond.code ({ cls := "FourPartsModel", name := "set", desc := "(IIIII)I" } : Jvm.MethodName) prog_9_method_26_code (6 : Nat) (Option.some Jvm.ClassFile.FieldType.int)) ∈ lw_all := lw_g (lw_at lw_m3 178 rfl) rfl
theorem q677 : (Jvm.Cond.methodLink "FourPartsModel" (108 : Nat) ({ cls := "FourPartsModel", name := "holds", desc := "(I[J)I" } : Jvm.MethodName)) ∈ lw_all := lw_g (lw_at lw_m3 179 rfl) rfl
theorem q678 : (Jvm.Cond.privateMethod ({ cls := "FourPartsModel", name := "holds", desc := "(I[J)I" } : Jvm.MethodName)) ∈ lw_tbl := lw_at lw_m3 180 rfl
theorem q679 : (Jvm.Cond.instanceMethod ({ cls := "FourPartsModel", name := "holds", desc := "(I[J)I" } : Jvm.MethodName)) ∈ lw_all := lw_g (lw_at lw_m3 181 rfl) rfl
theorem q680 : (Jvm.Cond.code ({ cls := "FourPartsModel", name := "holds", desc := "(I[J)I" } : Jvm.MethodName) prog_9_method_19_code (3 : Nat) (Option.some Jvm.ClassFile.FieldType.int)) ∈ lw_all := lw_g (lw_at lw_m3 182 rfl) rfl
theorem q681 : (Jvm.Cond.methodLink "FourPartsModel" (98 : Nat) ({ cls := "FourPartsModel", name := "isLow", desc := "([J)Z" } : Jvm.MethodName)) ∈ lw_all := lw_g (lw_at lw_m3 183 rfl) rfl
theorem q682 : (Jvm.Cond.static ({ cls := "FourPartsModel", name := "isLow", desc := "([J)Z" } : Jvm.MethodName)) ∈ lw_all := lw_g (lw_at lw_m3 184 rfl) rfl
theorem q683 : (Jvm.Cond.code ({ cls := "FourPartsModel", name := "isLow", desc := "([J)Z" } : Jvm.MethodName) prog_9_method_17_code (1 : Nat) (Option.some Jvm.ClassFile.FieldType.boolean)) ∈ lw_all := lw_g (lw_at lw_m3 185 rfl) rfl
theorem q684 : (Jvm.Cond.methodLink "FourPartsModel" (102 : Nat) ({ cls := "FourPartsModel", name := "store", desc := "(I[J)V" } : Jvm.MethodName)) ∈ lw_all := lw_g (lw_at lw_m3 186 rfl) rfl
theorem q685 : (Jvm.Cond.privateMethod ({ cls := "FourPartsModel", name := "store", desc := "(I[J)V" } : Jvm.MethodName)) ∈ lw_tbl := lw_at lw_m3 187 rfl
theorem q686 : (Jvm.Cond.instanceMethod ({ cls := "FourPartsModel", name := "store", desc := "(I[J)V" } : Jvm.MethodName)) ∈ lw_all := lw_g (lw_at lw_m3 188 rfl) rfl
theorem q687 : (Jvm.Cond.code ({ cls := "FourPartsModel", name := "store", desc := "(I[J)V" } : Jvm.MethodName) prog_9_method_18_code (4 : Nat) (Option.none : Option Jvm.ClassFile.FieldType)) ∈ lw_all := lw_g (lw_at lw_m3 189 rfl) rfl
theorem q689 : (Jvm.Cond.instanceMethod ({ cls := "FourPartsModel", name := "part", desc := "(II)I" } : Jvm.MethodName)) ∈ lw_all := lw_g (lw_at lw_m3 191 rfl) rfl
theorem q690 : (Jvm.Cond.selects "FourPartsModel" ({ cls := "FourPartsModel", name := "part", desc := "(II)I" } : Jvm.MethodName) ({ cls := "FourPartsModel", name := "part", desc := "(II)I" } : Jvm.MethodName)) ∈ lw_all := lw_g (lw_at lw_m3 192 rfl) rfl
theorem q691 : (Jvm.Cond.code ({ cls := "FourPartsModel", name := "part", desc := "(II)I" } : Jvm.MethodName) prog_9_method_30_code (3 : Nat) (Option.some Jvm.ClassFile.FieldType.int)) ∈ lw_all := lw_g (lw_at lw_m3 193 rfl) rfl
theorem q692 : (Jvm.Cond.constantLong "FourPartsModel" (119 : Nat) (6 : Int64)) ∈ lw_all := lw_g (lw_at lw_m3 194 rfl) rfl
theorem q693 : (Jvm.Cond.constant "FourPartsModel" (121 : Nat) (-1000000000 : Int32)) ∈ lw_all := lw_g (lw_at lw_m3 195 rfl) rfl
theorem q694 : (Jvm.Cond.methodLink "FourPartsModel" (122 : Nat) ({ cls := "FourPartsModel", name := "load", desc := "([JI)V" } : Jvm.MethodName)) ∈ lw_all := lw_g (lw_at lw_m3 196 rfl) rfl
theorem q695 : (Jvm.Cond.privateMethod ({ cls := "FourPartsModel", name := "load", desc := "([JI)V" } : Jvm.MethodName)) ∈ lw_tbl := lw_at lw_m3 197 rfl
theorem q696 : (Jvm.Cond.instanceMethod ({ cls := "FourPartsModel", name := "load", desc := "([JI)V" } : Jvm.MethodName)) ∈ lw_all := lw_g (lw_at lw_m3 198 rfl) rfl
theorem q697 : (Jvm.Cond.code ({ cls := "FourPartsModel", name := "load", desc := "([JI)V" } : Jvm.MethodName) prog_9_method_14_code (4 : Nat) (Option.none : Option Jvm.ClassFile.FieldType)) ∈ lw_all := lw_g (lw_at lw_m3 199 rfl) rfl
theorem q698 : (Jvm.Cond.methodLink "FourPartsModel" (126 : Nat) ({ cls := "FourPartsModel", name := "norm", desc := "([J)J" } : Jvm.MethodName)) ∈ lw_all := lw_g (lw_at lw_m3 200 rfl) rfl
theorem q699 : (Jvm.Cond.static ({ cls := "FourPartsModel", name := "norm", desc := "([J)J" } : Jvm.MethodName)) ∈ lw_all := lw_g (lw_at lw_m3 201 rfl) rfl
theorem q700 : (Jvm.Cond.code ({ cls := "FourPartsModel", name := "norm", desc := "([J)J" } : Jvm.MethodName) prog_9_method_22_code (1 : Nat) (Option.some Jvm.ClassFile.FieldType.long)) ∈ lw_all := lw_g (lw_at lw_m3 202 rfl) rfl
theorem q701 : (Jvm.Cond.constantLong "FourPartsModel" (106 : Nat) (4 : Int64)) ∈ lw_all := lw_g (lw_at lw_m3 203 rfl) rfl
theorem q702 : (Jvm.Cond.methodLink "FourPartsModel" (130 : Nat) ({ cls := "FourPartsModel", name := "isPrimitive", desc := "([J)Z" } : Jvm.MethodName)) ∈ lw_all := lw_g (lw_at lw_m3 204 rfl) rfl
theorem q703 : (Jvm.Cond.privateMethod ({ cls := "FourPartsModel", name := "isPrimitive", desc := "([J)Z" } : Jvm.MethodName)) ∈ lw_tbl := lw_at lw_m3 205 rfl
theorem q704 : (Jvm.Cond.instanceMethod ({ cls := "FourPartsModel", name := "isPrimitive", desc := "([J)Z" } : Jvm.MethodName)) ∈ lw_all := lw_g (lw_at lw_m3 206 rfl) rfl
theorem q705 : (Jvm.Cond.code ({ cls := "FourPartsModel", name := "isPrimitive", desc := "([J)Z" } : Jvm.MethodName) prog_9_method_28_code (5 : Nat) (Option.some Jvm.ClassFile.FieldType.boolean)) ∈ lw_all := lw_g (lw_at lw_m3 207 rfl) rfl
theorem q706 : (Jvm.Cond.methodLink "FourPartsModel" (112 : Nat) ({ cls := "FourPartsModel", name := "isNull", desc := "([J)Z" } : Jvm.MethodName)) ∈ lw_all := lw_g (lw_at lw_m3 208 rfl) rfl
theorem q707 : (Jvm.Cond.static ({ cls := "FourPartsModel", name := "isNull", desc := "([J)Z" } : Jvm.MethodName)) ∈ lw_all := lw_g (lw_at lw_m3 209 rfl) rfl
theorem q708 : (Jvm.Cond.code ({ cls := "FourPartsModel", name := "isNull", desc := "([J)Z" } : Jvm.MethodName) prog_9_method_23_code (1 : Nat) (Option.some Jvm.ClassFile.FieldType.boolean)) ∈ lw_all := lw_g (lw_at lw_m3 210 rfl) rfl
theorem q709 : (Jvm.Cond.methodLink "FourPartsModel" (115 : Nat) ({ cls := "FourPartsModel", name := "common", desc := "(JJ)J" } : Jvm.MethodName)) ∈ lw_all := lw_g (lw_at lw_m3 211 rfl) rfl
theorem q710 : (Jvm.Cond.static ({ cls := "FourPartsModel", name := "common", desc := "(JJ)J" } : Jvm.MethodName)) ∈ lw_all := lw_g (lw_at lw_m3 212 rfl) rfl
theorem q711 : (Jvm.Cond.code ({ cls := "FourPartsModel", name := "common", desc := "(JJ)J" } : Jvm.MethodName) prog_9_method_27_code (10 : Nat) (Option.some Jvm.ClassFile.FieldType.long)) ∈ lw_all := lw_g (lw_at lw_m3 213 rfl) rfl
theorem q712 : (Jvm.Cond.methodLink "FourPartsModel" (133 : Nat) ({ cls := "FourPartsModel", name := "unitOf", desc := "([J)I" } : Jvm.MethodName)) ∈ lw_all := lw_g (lw_at lw_m3 214 rfl) rfl
theorem q713 : (Jvm.Cond.privateMethod ({ cls := "FourPartsModel", name := "unitOf", desc := "([J)I" } : Jvm.MethodName)) ∈ lw_tbl := lw_at lw_m3 215 rfl
theorem q714 : (Jvm.Cond.instanceMethod ({ cls := "FourPartsModel", name := "unitOf", desc := "([J)I" } : Jvm.MethodName)) ∈ lw_all := lw_g (lw_at lw_m3 216 rfl) rfl
theorem q715 : (Jvm.Cond.code ({ cls := "FourPartsModel", name := "unitOf", desc := "([J)I" } : Jvm.MethodName) prog_9_method_29_code (3 : Nat) (Option.some Jvm.ClassFile.FieldType.int)) ∈ lw_all := lw_g (lw_at lw_m3 217 rfl) rfl
theorem q717 : (Jvm.Cond.instanceMethod ({ cls := "FourPartsModel", name := "work", desc := "(IIII)I" } : Jvm.MethodName)) ∈ lw_all := lw_g (lw_at lw_m3 219 rfl) rfl
theorem q718 : (Jvm.Cond.selects "FourPartsModel" ({ cls := "FourPartsModel", name := "work", desc := "(IIII)I" } : Jvm.MethodName) ({ cls := "FourPartsModel", name := "work", desc := "(IIII)I" } : Jvm.MethodName)) ∈ lw_all := lw_g (lw_at lw_m3 220 rfl) rfl
theorem q719 : (Jvm.Cond.code ({ cls := "FourPartsModel", name := "work", desc := "(IIII)I" } : Jvm.MethodName) prog_9_method_31_code (6 : Nat) (Option.some Jvm.ClassFile.FieldType.int)) ∈ lw_all := lw_g (lw_at lw_m3 221 rfl) rfl
theorem q720 : (Jvm.Cond.constantLong "FourPartsModel" (137 : Nat) (3 : Int64)) ∈ lw_all := lw_g (lw_at lw_m3 222 rfl) rfl
theorem q721 : (Jvm.Cond.methodLink "FourPartsModel" (139 : Nat) ({ cls := "FourPartsModel", name := "mirror", desc := "([J)V" } : Jvm.MethodName)) ∈ lw_all := lw_g (lw_at lw_m3 223 rfl) rfl
theorem q722 : (Jvm.Cond.static ({ cls := "FourPartsModel", name := "mirror", desc := "([J)V" } : Jvm.MethodName)) ∈ lw_all := lw_g (lw_at lw_m3 224 rfl) rfl
theorem q723 : (Jvm.Cond.code ({ cls := "FourPartsModel", name := "mirror", desc := "([J)V" } : Jvm.MethodName) prog_9_method_21_code (1 : Nat) (Option.none : Option Jvm.ClassFile.FieldType)) ∈ lw_all := lw_g (lw_at lw_m3 225 rfl) rfl
theorem q724 : (Jvm.Cond.methodLink "FourPartsModel" (143 : Nat) ({ cls := "FourPartsModel", name := "times", desc := "([J[J[J)V" } : Jvm.MethodName)) ∈ lw_all := lw_g (lw_at lw_m3 226 rfl) rfl
theorem q725 : (Jvm.Cond.static ({ cls := "FourPartsModel", name := "times", desc := "([J[J[J)V" } : Jvm.MethodName)) ∈ lw_all := lw_g (lw_at lw_m3 227 rfl) rfl
theorem q726 : (Jvm.Cond.code ({ cls := "FourPartsModel", name := "times", desc := "([J[J[J)V" } : Jvm.MethodName) prog_9_method_20_code (3 : Nat) (Option.none : Option Jvm.ClassFile.FieldType)) ∈ lw_all := lw_g (lw_at lw_m3 228 rfl) rfl
theorem q728 : (Jvm.Cond.instanceMethod ({ cls := "FourPartsModel", name := "unit", desc := "(IIII)I" } : Jvm.MethodName)) ∈ lw_all := lw_g (lw_at lw_m3 230 rfl) rfl
theorem q729 : (Jvm.Cond.selects "FourPartsModel" ({ cls := "FourPartsModel", name := "unit", desc := "(IIII)I" } : Jvm.MethodName) ({ cls := "FourPartsModel", name := "unit", desc := "(IIII)I" } : Jvm.MethodName)) ∈ lw_all := lw_g (lw_at lw_m3 231 rfl) rfl
theorem q730 : (Jvm.Cond.code ({ cls := "FourPartsModel", name := "unit", desc := "(IIII)I" } : Jvm.MethodName) prog_9_method_32_code (5 : Nat) (Option.some Jvm.ClassFile.FieldType.int)) ∈ lw_all := lw_g (lw_at lw_m3 232 rfl) rfl
theorem q731 : (Jvm.Cond.constantLong "FourPartsModel" (147 : Nat) (23 : Int64)) ∈ lw_all := lw_g (lw_at lw_m3 233 rfl) rfl
theorem q732 : (Jvm.Cond.methodLink "FourPartsModel" (149 : Nat) ({ cls := "FourPartsModel", name := "loadUnit", desc := "([JI)V" } : Jvm.MethodName)) ∈ lw_all := lw_g (lw_at lw_m3 234 rfl) rfl
theorem q733 : (Jvm.Cond.privateMethod ({ cls := "FourPartsModel", name := "loadUnit", desc := "([JI)V" } : Jvm.MethodName)) ∈ lw_tbl := lw_at lw_m3 235 rfl
theorem q734 : (Jvm.Cond.instanceMethod ({ cls := "FourPartsModel", name := "loadUnit", desc := "([JI)V" } : Jvm.MethodName)) ∈ lw_all := lw_g (lw_at lw_m3 236 rfl) rfl
theorem q735 : (Jvm.Cond.code ({ cls := "FourPartsModel", name := "loadUnit", desc := "([JI)V" } : Jvm.MethodName) prog_9_method_15_code (4 : Nat) (Option.none : Option Jvm.ClassFile.FieldType)) ∈ lw_all := lw_g (lw_at lw_m3 237 rfl) rfl
theorem q737 : (Jvm.Cond.instanceMethod ({ cls := "FourPartsModel", name := "divide", desc := "(IIIII)I" } : Jvm.MethodName)) ∈ lw_all := lw_g (lw_at lw_m3 239 rfl) rfl
theorem q738 : (Jvm.Cond.selects "FourPartsModel" ({ cls := "FourPartsModel", name := "divide", desc := "(IIIII)I" } : Jvm.MethodName) ({ cls := "FourPartsModel", name := "divide", desc := "(IIIII)I" } : Jvm.MethodName)) ∈ lw_all := lw_g (lw_at lw_m4 0 rfl) rfl
theorem q739 : (Jvm.Cond.code ({ cls := "FourPartsModel", name := "divide", desc := "(IIIII)I" } : Jvm.MethodName) prog_9_method_35_code (6 : Nat) (Option.some Jvm.ClassFile.FieldType.int)) ∈ lw_all := lw_g (lw_at lw_m4 1 rfl) rfl
theorem q740 : (Jvm.Cond.methodLink "FourPartsModel" (159 : Nat) ({ cls := "FourPartsModel", name := "divideBy", desc := "([J[JI)V" } : Jvm.MethodName)) ∈ lw_all := lw_g (lw_at lw_m4 2 rfl) rfl
theorem q741 : (Jvm.Cond.privateMethod ({ cls := "FourPartsModel", name := "divideBy", desc := "([J[JI)V" } : Jvm.MethodName)) ∈ lw_tbl := lw_at lw_m4 3 rfl
theorem q742 : (Jvm.Cond.instanceMethod ({ cls := "FourPartsModel", name := "divideBy", desc := "([J[JI)V" } : Jvm.MethodName)) ∈ lw_all := lw_g (lw_at lw_m4 4 rfl) rfl
theorem q743 : (Jvm.Cond.code ({ cls := "FourPartsModel", name := "divideBy", desc := "([J[JI)V" } : Jvm.MethodName) prog_9_method_34_code (15 : Nat) (Option.none : Option Jvm.ClassFile.FieldType)) ∈ lw_all := lw_g (lw_at lw_m4 5 rfl) rfl
theorem q744 : (Jvm.Cond.methodLink "FourPartsModel" (152 : Nat) ({ cls := "FourPartsModel", name := "copy4", desc := "([J[J)V" } : Jvm.MethodName)) ∈ lw_all := lw_g (lw_at lw_m4 6 rfl) rfl
theorem q745 : (Jvm.Cond.static ({ cls := "FourPartsModel", name := "copy4", desc := "([J[J)V" } : Jvm.MethodName)) ∈ lw_all := lw_g (lw_at lw_m4 7 rfl) rfl
theorem q746 : (Jvm.Cond.code ({ cls := "FourPartsModel", name := "copy4", desc := "([J[J)V" } : Jvm.MethodName) prog_9_method_16_code (3 : Nat) (Option.none : Option Jvm.ClassFile.FieldType)) ∈ lw_all := lw_g (lw_at lw_m4 8 rfl) rfl
theorem q747 : (Jvm.Cond.methodLink "FourPartsModel" (156 : Nat) ({ cls := "FourPartsModel", name := "floored", desc := "(JJ)J" } : Jvm.MethodName)) ∈ lw_all := lw_g (lw_at lw_m4 9 rfl) rfl
theorem q748 : (Jvm.Cond.static ({ cls := "FourPartsModel", name := "floored", desc := "(JJ)J" } : Jvm.MethodName)) ∈ lw_all := lw_g (lw_at lw_m4 10 rfl) rfl
theorem q749 : (Jvm.Cond.code ({ cls := "FourPartsModel", name := "floored", desc := "(JJ)J" } : Jvm.MethodName) prog_9_method_33_code (6 : Nat) (Option.some Jvm.ClassFile.FieldType.long)) ∈ lw_all := lw_g (lw_at lw_m4 11 rfl) rfl
theorem q751 : (Jvm.Cond.instanceMethod ({ cls := "FourPartsModel", name := "divisor", desc := "(IIII)I" } : Jvm.MethodName)) ∈ lw_all := lw_g (lw_at lw_m4 13 rfl) rfl
theorem q752 : (Jvm.Cond.selects "FourPartsModel" ({ cls := "FourPartsModel", name := "divisor", desc := "(IIII)I" } : Jvm.MethodName) ({ cls := "FourPartsModel", name := "divisor", desc := "(IIII)I" } : Jvm.MethodName)) ∈ lw_all := lw_g (lw_at lw_m4 14 rfl) rfl
theorem q753 : (Jvm.Cond.code ({ cls := "FourPartsModel", name := "divisor", desc := "(IIII)I" } : Jvm.MethodName) prog_9_method_37_code (5 : Nat) (Option.some Jvm.ClassFile.FieldType.int)) ∈ lw_all := lw_g (lw_at lw_m4 15 rfl) rfl
theorem q754 : (Jvm.Cond.methodLink "FourPartsModel" (167 : Nat) ({ cls := "FourPartsModel", name := "findDivisor", desc := "(I)V" } : Jvm.MethodName)) ∈ lw_all := lw_g (lw_at lw_m4 16 rfl) rfl
theorem q755 : (Jvm.Cond.privateMethod ({ cls := "FourPartsModel", name := "findDivisor", desc := "(I)V" } : Jvm.MethodName)) ∈ lw_tbl := lw_at lw_m4 17 rfl
theorem q756 : (Jvm.Cond.instanceMethod ({ cls := "FourPartsModel", name := "findDivisor", desc := "(I)V" } : Jvm.MethodName)) ∈ lw_all := lw_g (lw_at lw_m4 18 rfl) rfl
theorem q757 : (Jvm.Cond.code ({ cls := "FourPartsModel", name := "findDivisor", desc := "(I)V" } : Jvm.MethodName) prog_9_method_36_code (3 : Nat) (Option.none : Option Jvm.ClassFile.FieldType)) ∈ lw_all := lw_g (lw_at lw_m4 19 rfl) rfl
theorem q758 : (Jvm.Cond.methodLink "FourPartsModel" (163 : Nat) ({ cls := "FourPartsModel", name := "isGreater", desc := "([J[J)Z" } : Jvm.MethodName)) ∈ lw_all := lw_g (lw_at lw_m4 20 rfl) rfl
theorem q759 : (Jvm.Cond.static ({ cls := "FourPartsModel", name := "isGreater", desc := "([J[J)Z" } : Jvm.MethodName)) ∈ lw_all := lw_g (lw_at lw_m4 21 rfl) rfl
theorem q760 : (Jvm.Cond.code ({ cls := "FourPartsModel", name := "isGreater", desc := "([J[J)Z" } : Jvm.MethodName) prog_9_method_24_code (3 : Nat) (Option.some Jvm.ClassFile.FieldType.boolean)) ∈ lw_all := lw_g (lw_at lw_m4 22 rfl) rfl
theorem q762 : (Jvm.Cond.instanceMethod ({ cls := "FourPartsModel", name := "like", desc := "(III)I" } : Jvm.MethodName)) ∈ lw_all := lw_g (lw_at lw_m4 24 rfl) rfl
theorem q763 : (Jvm.Cond.selects "FourPartsModel" ({ cls := "FourPartsModel", name := "like", desc := "(III)I" } : Jvm.MethodName) ({ cls := "FourPartsModel", name := "like", desc := "(III)I" } : Jvm.MethodName)) ∈ lw_all := lw_g (lw_at lw_m4 25 rfl) rfl
theorem q764 : (Jvm.Cond.code ({ cls := "FourPartsModel", name := "like", desc := "(III)I" } : Jvm.MethodName) prog_9_method_38_code (5 : Nat) (Option.some Jvm.ClassFile.FieldType.int)) ∈ lw_all := lw_g (lw_at lw_m4 26 rfl) rfl
theorem q765 : (Jvm.Cond.methodLink "FourPartsModel" (171 : Nat) ({ cls := "FourPartsModel", name := "isSame", desc := "([J[J)Z" } : Jvm.MethodName)) ∈ lw_all := lw_g (lw_at lw_m4 27 rfl) rfl
theorem q766 : (Jvm.Cond.static ({ cls := "FourPartsModel", name := "isSame", desc := "([J[J)Z" } : Jvm.MethodName)) ∈ lw_all := lw_g (lw_at lw_m4 28 rfl) rfl
theorem q767 : (Jvm.Cond.code ({ cls := "FourPartsModel", name := "isSame", desc := "([J[J)Z" } : Jvm.MethodName) prog_9_method_25_code (2 : Nat) (Option.some Jvm.ClassFile.FieldType.boolean)) ∈ lw_all := lw_g (lw_at lw_m4 29 rfl) rfl
theorem q769 : (Jvm.Cond.instanceMethod ({ cls := "FourPartsModel", name := "way", desc := "(IIII)I" } : Jvm.MethodName)) ∈ lw_all := lw_g (lw_at lw_m4 31 rfl) rfl
theorem q770 : (Jvm.Cond.selects "FourPartsModel" ({ cls := "FourPartsModel", name := "way", desc := "(IIII)I" } : Jvm.MethodName) ({ cls := "FourPartsModel", name := "way", desc := "(IIII)I" } : Jvm.MethodName)) ∈ lw_all := lw_g (lw_at lw_m4 32 rfl) rfl
theorem q771 : (Jvm.Cond.code ({ cls := "FourPartsModel", name := "way", desc := "(IIII)I" } : Jvm.MethodName) prog_9_method_40_code (14 : Nat) (Option.some Jvm.ClassFile.FieldType.int)) ∈ lw_all := lw_g (lw_at lw_m4 33 rfl) rfl
theorem q772 : (Jvm.Cond.methodLink "FourPartsModel" (174 : Nat) ({ cls := "FourPartsModel", name := "isPrime", desc := "(J)Z" } : Jvm.MethodName)) ∈ lw_all := lw_g (lw_at lw_m4 34 rfl) rfl
theorem q773 : (Jvm.Cond.static ({ cls := "FourPartsModel", name := "isPrime", desc := "(J)Z" } : Jvm.MethodName)) ∈ lw_all := lw_g (lw_at lw_m4 35 rfl) rfl
theorem q774 : (Jvm.Cond.code ({ cls := "FourPartsModel", name := "isPrime", desc := "(J)Z" } : Jvm.MethodName) prog_9_method_39_code (5 : Nat) (Option.some Jvm.ClassFile.FieldType.boolean)) ∈ lw_all := lw_g (lw_at lw_m4 36 rfl) rfl
theorem q776 : (Jvm.Cond.instanceMethod ({ cls := "FourPartsModel", name := "factor", desc := "(II)I" } : Jvm.MethodName)) ∈ lw_all := lw_g (lw_at lw_m4 38 rfl) rfl
theorem q777 : (Jvm.Cond.selects "FourPartsModel" ({ cls := "FourPartsModel", name := "factor", desc := "(II)I" } : Jvm.MethodName) ({ cls := "FourPartsModel", name := "factor", desc := "(II)I" } : Jvm.MethodName)) ∈ lw_all := lw_g (lw_at lw_m4 39 rfl) rfl
theorem q778 : (Jvm.Cond.code ({ cls := "FourPartsModel", name := "factor", desc := "(II)I" } : Jvm.MethodName) prog_9_method_41_code (4 : Nat) (Option.some Jvm.ClassFile.FieldType.int)) ∈ lw_all := lw_g (lw_at lw_m4 40 rfl) rfl
theorem q780 : (Jvm.Cond.instanceMethod ({ cls := "FourPartsModel", name := "many", desc := "(II)I" } : Jvm.MethodName)) ∈ lw_all := lw_g (lw_at lw_m4 42 rfl) rfl
theorem q781 : (Jvm.Cond.selects "FourPartsModel" ({ cls := "FourPartsModel", name := "many", desc := "(II)I" } : Jvm.MethodName) ({ cls := "FourPartsModel", name := "many", desc := "(II)I" } : Jvm.MethodName)) ∈ lw_all := lw_g (lw_at lw_m4 43 rfl) rfl
theorem q782 : (Jvm.Cond.code ({ cls := "FourPartsModel", name := "many", desc := "(II)I" } : Jvm.MethodName) prog_9_method_44_code (3 : Nat) (Option.some Jvm.ClassFile.FieldType.int)) ∈ lw_all := lw_g (lw_at lw_m4 44 rfl) rfl
theorem q783 : (Jvm.Cond.constantLong "FourPartsModel" (185 : Nat) (200 : Int64)) ∈ lw_all := lw_g (lw_at lw_m4 45 rfl) rfl
theorem q784 : (Jvm.Cond.methodLink "FourPartsModel" (187 : Nat) ({ cls := "FourPartsModel", name := "goThrough", desc := "(III)I" } : Jvm.MethodName)) ∈ lw_all := lw_g (lw_at lw_m4 46 rfl) rfl
theorem q785 : (Jvm.Cond.privateMethod ({ cls := "FourPartsModel", name := "goThrough", desc := "(III)I" } : Jvm.MethodName)) ∈ lw_tbl := lw_at lw_m4 47 rfl
theorem q786 : (Jvm.Cond.instanceMethod ({ cls := "FourPartsModel", name := "goThrough", desc := "(III)I" } : Jvm.MethodName)) ∈ lw_all := lw_g (lw_at lw_m4 48 rfl) rfl
theorem q787 : (Jvm.Cond.code ({ cls := "FourPartsModel", name := "goThrough", desc := "(III)I" } : Jvm.MethodName) prog_9_method_43_code (14 : Nat) (Option.some Jvm.ClassFile.FieldType.int)) ∈ lw_all := lw_g (lw_at lw_m4 49 rfl) rfl
theorem q788 : (Jvm.Cond.methodLink "FourPartsModel" (181 : Nat) ({ cls := "FourPartsModel", name := "rootOf", desc := "(I)I" } : Jvm.MethodName)) ∈ lw_all := lw_g (lw_at lw_m4 50 rfl) rfl
theorem q789 : (Jvm.Cond.static ({ cls := "FourPartsModel", name := "rootOf", desc := "(I)I" } : Jvm.MethodName)) ∈ lw_all := lw_g (lw_at lw_m4 51 rfl) rfl
theorem q790 : (Jvm.Cond.code ({ cls := "FourPartsModel", name := "rootOf", desc := "(I)I" } : Jvm.MethodName) prog_9_method_42_code (2 : Nat) (Option.some Jvm.ClassFile.FieldType.int)) ∈ lw_all := lw_g (lw_at lw_m4 52 rfl) rfl
theorem q792 : (Jvm.Cond.instanceMethod ({ cls := "FourPartsModel", name := "listed", desc := "(III)I" } : Jvm.MethodName)) ∈ lw_all := lw_g (lw_at lw_m4 54 rfl) rfl
theorem q793 : (Jvm.Cond.selects "FourPartsModel" ({ cls := "FourPartsModel", name := "listed", desc := "(III)I" } : Jvm.MethodName) ({ cls := "FourPartsModel", name := "listed", desc := "(III)I" } : Jvm.MethodName)) ∈ lw_all := lw_g (lw_at lw_m4 55 rfl) rfl
theorem q794 : (Jvm.Cond.code ({ cls := "FourPartsModel", name := "listed", desc := "(III)I" } : Jvm.MethodName) prog_9_method_45_code (6 : Nat) (Option.some Jvm.ClassFile.FieldType.int)) ∈ lw_all := lw_g (lw_at lw_m4 56 rfl) rfl
theorem q796 : (Jvm.Cond.instanceMethod ({ cls := "FourPartsModel", name := "turn", desc := "(III)I" } : Jvm.MethodName)) ∈ lw_all := lw_g (lw_at lw_m4 58 rfl) rfl
theorem q797 : (Jvm.Cond.selects "FourPartsModel" ({ cls := "FourPartsModel", name := "turn", desc := "(III)I" } : Jvm.MethodName) ({ cls := "FourPartsModel", name := "turn", desc := "(III)I" } : Jvm.MethodName)) ∈ lw_all := lw_g (lw_at lw_m4 59 rfl) rfl
theorem q798 : (Jvm.Cond.code ({ cls := "FourPartsModel", name := "turn", desc := "(III)I" } : Jvm.MethodName) prog_9_method_47_code (4 : Nat) (Option.some Jvm.ClassFile.FieldType.int)) ∈ lw_all := lw_g (lw_at lw_m4 60 rfl) rfl
theorem q799 : (Jvm.Cond.constant "FourPartsModel" (190 : Nat) (-2000000000 : Int32)) ∈ lw_all := lw_g (lw_at lw_m4 61 rfl) rfl
theorem q800 : (Jvm.Cond.constant "FourPartsModel" (191 : Nat) (-2000000001 : Int32)) ∈ lw_all := lw_g (lw_at lw_m4 62 rfl) rfl
theorem q801 : (Jvm.Cond.methodLink "FourPartsModel" (192 : Nat) ({ cls := "FourPartsModel", name := "entry", desc := "(III)J" } : Jvm.MethodName)) ∈ lw_all := lw_g (lw_at lw_m4 63 rfl) rfl
theorem q802 : (Jvm.Cond.privateMethod ({ cls := "FourPartsModel", name := "entry", desc := "(III)J" } : Jvm.MethodName)) ∈ lw_tbl := lw_at lw_m4 64 rfl
theorem q803 : (Jvm.Cond.instanceMethod ({ cls := "FourPartsModel", name := "entry", desc := "(III)J" } : Jvm.MethodName)) ∈ lw_all := lw_g (lw_at lw_m4 65 rfl) rfl
theorem q804 : (Jvm.Cond.code ({ cls := "FourPartsModel", name := "entry", desc := "(III)J" } : Jvm.MethodName) prog_9_method_46_code (14 : Nat) (Option.some Jvm.ClassFile.FieldType.long)) ∈ lw_all := lw_g (lw_at lw_m4 66 rfl) rfl
theorem q806 : (Jvm.Cond.instanceMethod ({ cls := "FourPartsModel", name := "turned", desc := "(IIIII)J" } : Jvm.MethodName)) ∈ lw_all := lw_g (lw_at lw_m4 68 rfl) rfl
theorem q807 : (Jvm.Cond.selects "FourPartsModel" ({ cls := "FourPartsModel", name := "turned", desc := "(IIIII)J" } : Jvm.MethodName) ({ cls := "FourPartsModel", name := "turned", desc := "(IIIII)J" } : Jvm.MethodName)) ∈ lw_all := lw_g (lw_at lw_m4 69 rfl) rfl
theorem q808 : (Jvm.Cond.code ({ cls := "FourPartsModel", name := "turned", desc := "(IIIII)J" } : Jvm.MethodName) prog_9_method_48_code (6 : Nat) (Option.some Jvm.ClassFile.FieldType.long)) ∈ lw_all := lw_g (lw_at lw_m4 70 rfl) rfl
theorem q809 : (Jvm.Cond.constantLong "FourPartsModel" (196 : Nat) (-100 : Int64)) ∈ lw_all := lw_g (lw_at lw_m4 71 rfl) rfl
theorem q810 : (Jvm.Cond.constantLong "FourPartsModel" (198 : Nat) (100 : Int64)) ∈ lw_all := lw_g (lw_at lw_m4 72 rfl) rfl
theorem q820 : (Jvm.Cond.castable "FourPartsModel" "java/lang/Object") ∈ lw_tbl := lw_at lw_m4 82 rfl
theorem in_X5 : ∀ w ∈ wsX50, w ∈ lw_all := lw_in wsX50 [590, 592, 594, 596, 598, 600, 602, 604, 606, 608, 610, 612, 614, 616, 618, 620, 622, 624] (by decide +kernel) (by decide +kernel)
