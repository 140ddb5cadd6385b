/-! FourParts$Four -/
set_option maxRecDepth 100000
def RX1 : String := "FourParts$Four"
def TX1 : u_T := fun k => match k with
  | 0 => ("FourParts$Four", "a", "J", true)
  | 1 => ("FourParts$Four", "b", "J", true)
  | 2 => ("FourParts$Four", "c", "J", true)
  | _ => ("FourParts$Four", "d", "J", true)
def tyX1 : Nat → FieldType := fun k => match k with
  | 0 => .long
  | 1 => .long
  | 2 => .long
  | _ => .long
abbrev wsX10 : List Cond := u_ws RX1 TX1 4
theorem nmX1 : ∀ a, a < 4 → ∀ b, b < 4 → a ≠ b → (TX1 a).2.1 ≠ (TX1 b).2.1 := by decide +kernel
theorem tyX1_ok : ∀ k, k < 4 → parseFieldDescriptor (TX1 k).2.2.1 = some (tyX1 k) := by decide +kernel
abbrev cX1_init : ByteArray := prog_2_method_1_code
def yX1_init : MethodName := ⟨RX1, "<init>", "(JJJJ)V"⟩
def dkwX1_init_1 : List UInt8 := [181, 0, 21, 177]
abbrev dktX1_init_1 : List UInt8 := dkwX1_init_1 ++ []
def dkwX1_init_0 : List UInt8 := [42, 183, 0, 3, 42, 31, 181, 0, 9, 42, 33, 181, 0, 15, 42, 22, 5, 181, 0, 18, 42, 22, 7]
abbrev dktX1_init_0 : List UInt8 := dkwX1_init_0 ++ dktX1_init_1
theorem dksX1_init_0 : cX1_init.data.toList.drop 0 = dktX1_init_0 := by decide +kernel
theorem dksX1_init_1 : cX1_init.data.toList.drop 23 = dktX1_init_1 := dk_seg dksX1_init_0 23 rfl rfl
theorem dX1_init_0 : decode cX1_init 0 = .ok (.aload_n 0, 1) := dk_42 (dk_at dksX1_init_0 0 rfl rfl)
theorem dX1_init_1 : decode cX1_init 1 = .ok (.invokespecial 3, 3) := dk_183 0 3 (dk_at dksX1_init_0 1 rfl rfl)
theorem dX1_init_4 : decode cX1_init 4 = .ok (.aload_n 0, 1) := dk_42 (dk_at dksX1_init_0 4 rfl rfl)
theorem dX1_init_5 : decode cX1_init 5 = .ok (.lload_n 1, 1) := dk_31 (dk_at dksX1_init_0 5 rfl rfl)
theorem dX1_init_6 : decode cX1_init 6 = .ok (.putfield 9, 3) := dk_181 0 9 (dk_at dksX1_init_0 6 rfl rfl)
theorem dX1_init_9 : decode cX1_init 9 = .ok (.aload_n 0, 1) := dk_42 (dk_at dksX1_init_0 9 rfl rfl)
theorem dX1_init_10 : decode cX1_init 10 = .ok (.lload_n 3, 1) := dk_33 (dk_at dksX1_init_0 10 rfl rfl)
theorem dX1_init_11 : decode cX1_init 11 = .ok (.putfield 15, 3) := dk_181 0 15 (dk_at dksX1_init_0 11 rfl rfl)
theorem dX1_init_14 : decode cX1_init 14 = .ok (.aload_n 0, 1) := dk_42 (dk_at dksX1_init_0 14 rfl rfl)
theorem dX1_init_15 : decode cX1_init 15 = .ok (.lload 5, 2) := dk_22 5 (dk_at dksX1_init_0 15 rfl rfl)
theorem dX1_init_17 : decode cX1_init 17 = .ok (.putfield 18, 3) := dk_181 0 18 (dk_at dksX1_init_0 17 rfl rfl)
theorem dX1_init_20 : decode cX1_init 20 = .ok (.aload_n 0, 1) := dk_42 (dk_at dksX1_init_0 20 rfl rfl)
theorem dX1_init_21 : decode cX1_init 21 = .ok (.lload 7, 2) := dk_22 7 (dk_at dksX1_init_0 21 rfl rfl)
theorem dX1_init_23 : decode cX1_init 23 = .ok (.putfield 21, 3) := dk_181 0 21 (dk_at dksX1_init_1 0 rfl rfl)
theorem dX1_init_26 : decode cX1_init 26 = .ok (.return_, 1) := dk_177 (dk_at dksX1_init_1 3 rfl rfl)
abbrev cX1_part : ByteArray := prog_2_method_2_code
def yX1_part : MethodName := ⟨RX1, "part", "(I)J"⟩
def dkwX1_part_1 : List UInt8 := [5, 160, 0, 10, 42, 180, 0, 18, 167, 0, 7, 42, 180, 0, 21, 173]
abbrev dktX1_part_1 : List UInt8 := dkwX1_part_1 ++ []
def dkwX1_part_0 : List UInt8 := [27, 154, 0, 10, 42, 180, 0, 9, 167, 0, 31, 27, 4, 160, 0, 10, 42, 180, 0, 15, 167, 0, 19, 27]
abbrev dktX1_part_0 : List UInt8 := dkwX1_part_0 ++ dktX1_part_1
theorem dksX1_part_0 : cX1_part.data.toList.drop 0 = dktX1_part_0 := by decide +kernel
theorem dksX1_part_1 : cX1_part.data.toList.drop 24 = dktX1_part_1 := dk_seg dksX1_part_0 24 rfl rfl
theorem dX1_part_0 : decode cX1_part 0 = .ok (.iload_n 1, 1) := dk_27 (dk_at dksX1_part_0 0 rfl rfl)
theorem dX1_part_1 : decode cX1_part 1 = .ok (.ifCond .ne 10, 3) := dk_154 0 10 (dk_at dksX1_part_0 1 rfl rfl)
theorem dX1_part_4 : decode cX1_part 4 = .ok (.aload_n 0, 1) := dk_42 (dk_at dksX1_part_0 4 rfl rfl)
theorem dX1_part_5 : decode cX1_part 5 = .ok (.getfield 9, 3) := dk_180 0 9 (dk_at dksX1_part_0 5 rfl rfl)
theorem dX1_part_8 : decode cX1_part 8 = .ok (.goto 31, 3) := dk_167 0 31 (dk_at dksX1_part_0 8 rfl rfl)
theorem dX1_part_11 : decode cX1_part 11 = .ok (.iload_n 1, 1) := dk_27 (dk_at dksX1_part_0 11 rfl rfl)
theorem dX1_part_12 : decode cX1_part 12 = .ok (.iconst 1, 1) := dk_4 (dk_at dksX1_part_0 12 rfl rfl)
theorem dX1_part_13 : decode cX1_part 13 = .ok (.if_icmp .ne 10, 3) := dk_160 0 10 (dk_at dksX1_part_0 13 rfl rfl)
theorem dX1_part_16 : decode cX1_part 16 = .ok (.aload_n 0, 1) := dk_42 (dk_at dksX1_part_0 16 rfl rfl)
theorem dX1_part_17 : decode cX1_part 17 = .ok (.getfield 15, 3) := dk_180 0 15 (dk_at dksX1_part_0 17 rfl rfl)
theorem dX1_part_20 : decode cX1_part 20 = .ok (.goto 19, 3) := dk_167 0 19 (dk_at dksX1_part_0 20 rfl rfl)
theorem dX1_part_23 : decode cX1_part 23 = .ok (.iload_n 1, 1) := dk_27 (dk_at dksX1_part_0 23 rfl rfl)
theorem dX1_part_24 : decode cX1_part 24 = .ok (.iconst 2, 1) := dk_5 (dk_at dksX1_part_1 0 rfl rfl)
theorem dX1_part_25 : decode cX1_part 25 = .ok (.if_icmp .ne 10, 3) := dk_160 0 10 (dk_at dksX1_part_1 1 rfl rfl)
theorem dX1_part_28 : decode cX1_part 28 = .ok (.aload_n 0, 1) := dk_42 (dk_at dksX1_part_1 4 rfl rfl)
theorem dX1_part_29 : decode cX1_part 29 = .ok (.getfield 18, 3) := dk_180 0 18 (dk_at dksX1_part_1 5 rfl rfl)
theorem dX1_part_32 : decode cX1_part 32 = .ok (.goto 7, 3) := dk_167 0 7 (dk_at dksX1_part_1 8 rfl rfl)
theorem dX1_part_35 : decode cX1_part 35 = .ok (.aload_n 0, 1) := dk_42 (dk_at dksX1_part_1 11 rfl rfl)
theorem dX1_part_36 : decode cX1_part 36 = .ok (.getfield 21, 3) := dk_180 0 21 (dk_at dksX1_part_1 12 rfl rfl)
theorem dX1_part_39 : decode cX1_part 39 = .ok (.lreturn, 1) := dk_173 (dk_at dksX1_part_1 15 rfl rfl)
abbrev cX1_fits : ByteArray := prog_2_method_4_code
def yX1_fits : MethodName := ⟨RX1, "fits", "()Z"⟩
def dkwX1_fits_1 : List UInt8 := [126, 60, 132, 2, 1, 167, 255, 231, 27, 172]
abbrev dktX1_fits_1 : List UInt8 := dkwX1_fits_1 ++ []
def dkwX1_fits_0 : List UInt8 := [4, 60, 3, 61, 28, 7, 162, 0, 26, 27, 42, 28, 182, 0, 30, 20, 0, 34, 20, 0, 36, 184, 0, 38]
abbrev dktX1_fits_0 : List UInt8 := dkwX1_fits_0 ++ dktX1_fits_1
theorem dksX1_fits_0 : cX1_fits.data.toList.drop 0 = dktX1_fits_0 := by decide +kernel
theorem dksX1_fits_1 : cX1_fits.data.toList.drop 24 = dktX1_fits_1 := dk_seg dksX1_fits_0 24 rfl rfl
theorem dX1_fits_0 : decode cX1_fits 0 = .ok (.iconst 1, 1) := dk_4 (dk_at dksX1_fits_0 0 rfl rfl)
theorem dX1_fits_1 : decode cX1_fits 1 = .ok (.istore_n 1, 1) := dk_60 (dk_at dksX1_fits_0 1 rfl rfl)
theorem dX1_fits_2 : decode cX1_fits 2 = .ok (.iconst 0, 1) := dk_3 (dk_at dksX1_fits_0 2 rfl rfl)
theorem dX1_fits_3 : decode cX1_fits 3 = .ok (.istore_n 2, 1) := dk_61 (dk_at dksX1_fits_0 3 rfl rfl)
theorem dX1_fits_4 : decode cX1_fits 4 = .ok (.iload_n 2, 1) := dk_28 (dk_at dksX1_fits_0 4 rfl rfl)
theorem dX1_fits_5 : decode cX1_fits 5 = .ok (.iconst 4, 1) := dk_7 (dk_at dksX1_fits_0 5 rfl rfl)
theorem dX1_fits_6 : decode cX1_fits 6 = .ok (.if_icmp .ge 26, 3) := dk_162 0 26 (dk_at dksX1_fits_0 6 rfl rfl)
theorem dX1_fits_9 : decode cX1_fits 9 = .ok (.iload_n 1, 1) := dk_27 (dk_at dksX1_fits_0 9 rfl rfl)
theorem dX1_fits_10 : decode cX1_fits 10 = .ok (.aload_n 0, 1) := dk_42 (dk_at dksX1_fits_0 10 rfl rfl)
theorem dX1_fits_11 : decode cX1_fits 11 = .ok (.iload_n 2, 1) := dk_28 (dk_at dksX1_fits_0 11 rfl rfl)
theorem dX1_fits_12 : decode cX1_fits 12 = .ok (.invokevirtual 30, 3) := dk_182 0 30 (dk_at dksX1_fits_0 12 rfl rfl)
theorem dX1_fits_15 : decode cX1_fits 15 = .ok (.ldc2_w 34, 3) := dk_20 0 34 (dk_at dksX1_fits_0 15 rfl rfl)
theorem dX1_fits_18 : decode cX1_fits 18 = .ok (.ldc2_w 36, 3) := dk_20 0 36 (dk_at dksX1_fits_0 18 rfl rfl)
theorem dX1_fits_21 : decode cX1_fits 21 = .ok (.invokestatic 38, 3) := dk_184 0 38 (dk_at dksX1_fits_0 21 rfl rfl)
theorem dX1_fits_24 : decode cX1_fits 24 = .ok (.iand, 1) := dk_126 (dk_at dksX1_fits_1 0 rfl rfl)
theorem dX1_fits_25 : decode cX1_fits 25 = .ok (.istore_n 1, 1) := dk_60 (dk_at dksX1_fits_1 1 rfl rfl)
theorem dX1_fits_26 : decode cX1_fits 26 = .ok (.iinc 2 1, 3) := dk_132 2 1 (dk_at dksX1_fits_1 2 rfl rfl)
theorem dX1_fits_29 : decode cX1_fits 29 = .ok (.goto (-25), 3) := dk_167 255 231 (dk_at dksX1_fits_1 5 rfl rfl)
theorem dX1_fits_32 : decode cX1_fits 32 = .ok (.iload_n 1, 1) := dk_27 (dk_at dksX1_fits_1 8 rfl rfl)
theorem dX1_fits_33 : decode cX1_fits 33 = .ok (.ireturn, 1) := dk_172 (dk_at dksX1_fits_1 9 rfl rfl)
abbrev cX1_norm : ByteArray := prog_2_method_3_code
def yX1_norm : MethodName := ⟨RX1, "norm", "()J"⟩
def dkwX1_norm_0 : List UInt8 := [42, 182, 0, 24, 20, 0, 28, 109, 173]
abbrev dktX1_norm_0 : List UInt8 := dkwX1_norm_0 ++ []
theorem dksX1_norm_0 : cX1_norm.data.toList.drop 0 = dktX1_norm_0 := by decide +kernel
theorem dX1_norm_0 : decode cX1_norm 0 = .ok (.aload_n 0, 1) := dk_42 (dk_at dksX1_norm_0 0 rfl rfl)
theorem dX1_norm_1 : decode cX1_norm 1 = .ok (.invokevirtual 24, 3) := dk_182 0 24 (dk_at dksX1_norm_0 1 rfl rfl)
theorem dX1_norm_4 : decode cX1_norm 4 = .ok (.ldc2_w 28, 3) := dk_20 0 28 (dk_at dksX1_norm_0 4 rfl rfl)
theorem dX1_norm_7 : decode cX1_norm 7 = .ok (.ldiv, 1) := dk_109 (dk_at dksX1_norm_0 7 rfl rfl)
theorem dX1_norm_8 : decode cX1_norm 8 = .ok (.lreturn, 1) := dk_173 (dk_at dksX1_norm_0 8 rfl rfl)
abbrev cX1_isPrimitive : ByteArray := prog_2_method_14_code
def yX1_isPrimitive : MethodName := ⟨RX1, "isPrimitive", "()Z"⟩
def dkwX1_isPrimitive_1 : List UInt8 := [182, 0, 67, 184, 0, 70, 153, 0, 7, 4, 167, 0, 4, 3, 172]
abbrev dktX1_isPrimitive_1 : List UInt8 := dkwX1_isPrimitive_1 ++ []
def dkwX1_isPrimitive_0 : List UInt8 := [42, 182, 0, 63, 154, 0, 33, 42, 180, 0, 9, 42, 180, 0, 15, 42, 180, 0, 18, 42, 180, 0, 21, 42]
abbrev dktX1_isPrimitive_0 : List UInt8 := dkwX1_isPrimitive_0 ++ dktX1_isPrimitive_1
theorem dksX1_isPrimitive_0 : cX1_isPrimitive.data.toList.drop 0 = dktX1_isPrimitive_0 := by decide +kernel
theorem dksX1_isPrimitive_1 : cX1_isPrimitive.data.toList.drop 24 = dktX1_isPrimitive_1 := dk_seg dksX1_isPrimitive_0 24 rfl rfl
theorem dX1_isPrimitive_0 : decode cX1_isPrimitive 0 = .ok (.aload_n 0, 1) := dk_42 (dk_at dksX1_isPrimitive_0 0 rfl rfl)
theorem dX1_isPrimitive_1 : decode cX1_isPrimitive 1 = .ok (.invokevirtual 63, 3) := dk_182 0 63 (dk_at dksX1_isPrimitive_0 1 rfl rfl)
theorem dX1_isPrimitive_4 : decode cX1_isPrimitive 4 = .ok (.ifCond .ne 33, 3) := dk_154 0 33 (dk_at dksX1_isPrimitive_0 4 rfl rfl)
theorem dX1_isPrimitive_7 : decode cX1_isPrimitive 7 = .ok (.aload_n 0, 1) := dk_42 (dk_at dksX1_isPrimitive_0 7 rfl rfl)
theorem dX1_isPrimitive_8 : decode cX1_isPrimitive 8 = .ok (.getfield 9, 3) := dk_180 0 9 (dk_at dksX1_isPrimitive_0 8 rfl rfl)
theorem dX1_isPrimitive_11 : decode cX1_isPrimitive 11 = .ok (.aload_n 0, 1) := dk_42 (dk_at dksX1_isPrimitive_0 11 rfl rfl)
theorem dX1_isPrimitive_12 : decode cX1_isPrimitive 12 = .ok (.getfield 15, 3) := dk_180 0 15 (dk_at dksX1_isPrimitive_0 12 rfl rfl)
theorem dX1_isPrimitive_15 : decode cX1_isPrimitive 15 = .ok (.aload_n 0, 1) := dk_42 (dk_at dksX1_isPrimitive_0 15 rfl rfl)
theorem dX1_isPrimitive_16 : decode cX1_isPrimitive 16 = .ok (.getfield 18, 3) := dk_180 0 18 (dk_at dksX1_isPrimitive_0 16 rfl rfl)
theorem dX1_isPrimitive_19 : decode cX1_isPrimitive 19 = .ok (.aload_n 0, 1) := dk_42 (dk_at dksX1_isPrimitive_0 19 rfl rfl)
theorem dX1_isPrimitive_20 : decode cX1_isPrimitive 20 = .ok (.getfield 21, 3) := dk_180 0 21 (dk_at dksX1_isPrimitive_0 20 rfl rfl)
theorem dX1_isPrimitive_23 : decode cX1_isPrimitive 23 = .ok (.aload_n 0, 1) := dk_42 (dk_at dksX1_isPrimitive_0 23 rfl rfl)
theorem dX1_isPrimitive_24 : decode cX1_isPrimitive 24 = .ok (.invokevirtual 67, 3) := dk_182 0 67 (dk_at dksX1_isPrimitive_1 0 rfl rfl)
theorem dX1_isPrimitive_27 : decode cX1_isPrimitive 27 = .ok (.invokestatic 70, 3) := dk_184 0 70 (dk_at dksX1_isPrimitive_1 3 rfl rfl)
theorem dX1_isPrimitive_30 : decode cX1_isPrimitive 30 = .ok (.ifCond .eq 7, 3) := dk_153 0 7 (dk_at dksX1_isPrimitive_1 6 rfl rfl)
theorem dX1_isPrimitive_33 : decode cX1_isPrimitive 33 = .ok (.iconst 1, 1) := dk_4 (dk_at dksX1_isPrimitive_1 9 rfl rfl)
theorem dX1_isPrimitive_34 : decode cX1_isPrimitive 34 = .ok (.goto 4, 3) := dk_167 0 4 (dk_at dksX1_isPrimitive_1 10 rfl rfl)
theorem dX1_isPrimitive_37 : decode cX1_isPrimitive 37 = .ok (.iconst 0, 1) := dk_3 (dk_at dksX1_isPrimitive_1 13 rfl rfl)
theorem dX1_isPrimitive_38 : decode cX1_isPrimitive 38 = .ok (.ireturn, 1) := dk_172 (dk_at dksX1_isPrimitive_1 14 rfl rfl)
abbrev cX1_isAlone : ByteArray := prog_2_method_15_code
def yX1_isAlone : MethodName := ⟨RX1, "isAlone", "(JJJJJ)Z"⟩
def dkwX1_isAlone_5 : List UInt8 := [4, 167, 0, 4, 3, 54, 10, 22, 11, 10, 97, 55, 11, 167, 255, 131, 21, 10, 172]
abbrev dktX1_isAlone_5 : List UInt8 := dkwX1_isAlone_5 ++ []
def dkwX1_isAlone_4 : List UInt8 := [22, 11, 109, 10, 127, 22, 14, 148, 154, 0, 16, 22, 6, 22, 11, 109, 10, 127, 22, 14, 148, 153, 0, 7]
abbrev dktX1_isAlone_4 : List UInt8 := dkwX1_isAlone_4 ++ dktX1_isAlone_5
def dkwX1_isAlone_3 : List UInt8 := [109, 10, 127, 55, 14, 21, 13, 153, 0, 41, 32, 22, 11, 109, 10, 127, 22, 14, 148, 154, 0, 29, 22, 4]
abbrev dktX1_isAlone_3 : List UInt8 := dkwX1_isAlone_3 ++ dktX1_isAlone_4
def dkwX1_isAlone_2 : List UInt8 := [148, 154, 0, 17, 22, 6, 22, 11, 113, 9, 148, 154, 0, 7, 4, 167, 0, 4, 3, 54, 13, 30, 22, 11]
abbrev dktX1_isAlone_2 : List UInt8 := dkwX1_isAlone_2 ++ dktX1_isAlone_3
def dkwX1_isAlone_1 : List UInt8 := [30, 22, 11, 113, 9, 148, 154, 0, 36, 32, 22, 11, 113, 9, 148, 154, 0, 27, 22, 4, 22, 11, 113, 9]
abbrev dktX1_isAlone_1 : List UInt8 := dkwX1_isAlone_1 ++ dktX1_isAlone_2
def dkwX1_isAlone_0 : List UInt8 := [4, 54, 10, 20, 0, 45, 55, 11, 21, 10, 153, 0, 126, 22, 11, 22, 11, 105, 22, 8, 148, 157, 0, 115]
abbrev dktX1_isAlone_0 : List UInt8 := dkwX1_isAlone_0 ++ dktX1_isAlone_1
theorem dksX1_isAlone_0 : cX1_isAlone.data.toList.drop 0 = dktX1_isAlone_0 := by decide +kernel
theorem dksX1_isAlone_1 : cX1_isAlone.data.toList.drop 24 = dktX1_isAlone_1 := dk_seg dksX1_isAlone_0 24 rfl rfl
theorem dksX1_isAlone_2 : cX1_isAlone.data.toList.drop 48 = dktX1_isAlone_2 := dk_seg dksX1_isAlone_1 24 rfl rfl
theorem dksX1_isAlone_3 : cX1_isAlone.data.toList.drop 72 = dktX1_isAlone_3 := dk_seg dksX1_isAlone_2 24 rfl rfl
theorem dksX1_isAlone_4 : cX1_isAlone.data.toList.drop 96 = dktX1_isAlone_4 := dk_seg dksX1_isAlone_3 24 rfl rfl
theorem dksX1_isAlone_5 : cX1_isAlone.data.toList.drop 120 = dktX1_isAlone_5 := dk_seg dksX1_isAlone_4 24 rfl rfl
theorem dX1_isAlone_0 : decode cX1_isAlone 0 = .ok (.iconst 1, 1) := dk_4 (dk_at dksX1_isAlone_0 0 rfl rfl)
theorem dX1_isAlone_1 : decode cX1_isAlone 1 = .ok (.istore 10, 2) := dk_54 10 (dk_at dksX1_isAlone_0 1 rfl rfl)
theorem dX1_isAlone_3 : decode cX1_isAlone 3 = .ok (.ldc2_w 45, 3) := dk_20 0 45 (dk_at dksX1_isAlone_0 3 rfl rfl)
theorem dX1_isAlone_6 : decode cX1_isAlone 6 = .ok (.lstore 11, 2) := dk_55 11 (dk_at dksX1_isAlone_0 6 rfl rfl)
theorem dX1_isAlone_8 : decode cX1_isAlone 8 = .ok (.iload 10, 2) := dk_21 10 (dk_at dksX1_isAlone_0 8 rfl rfl)
theorem dX1_isAlone_10 : decode cX1_isAlone 10 = .ok (.ifCond .eq 126, 3) := dk_153 0 126 (dk_at dksX1_isAlone_0 10 rfl rfl)
theorem dX1_isAlone_13 : decode cX1_isAlone 13 = .ok (.lload 11, 2) := dk_22 11 (dk_at dksX1_isAlone_0 13 rfl rfl)
theorem dX1_isAlone_15 : decode cX1_isAlone 15 = .ok (.lload 11, 2) := dk_22 11 (dk_at dksX1_isAlone_0 15 rfl rfl)
theorem dX1_isAlone_17 : decode cX1_isAlone 17 = .ok (.lmul, 1) := dk_105 (dk_at dksX1_isAlone_0 17 rfl rfl)
theorem dX1_isAlone_18 : decode cX1_isAlone 18 = .ok (.lload 8, 2) := dk_22 8 (dk_at dksX1_isAlone_0 18 rfl rfl)
theorem dX1_isAlone_20 : decode cX1_isAlone 20 = .ok (.lcmp, 1) := dk_148 (dk_at dksX1_isAlone_0 20 rfl rfl)
theorem dX1_isAlone_21 : decode cX1_isAlone 21 = .ok (.ifCond .gt 115, 3) := dk_157 0 115 (dk_at dksX1_isAlone_0 21 rfl rfl)
theorem dX1_isAlone_24 : decode cX1_isAlone 24 = .ok (.lload_n 0, 1) := dk_30 (dk_at dksX1_isAlone_1 0 rfl rfl)
theorem dX1_isAlone_25 : decode cX1_isAlone 25 = .ok (.lload 11, 2) := dk_22 11 (dk_at dksX1_isAlone_1 1 rfl rfl)
theorem dX1_isAlone_27 : decode cX1_isAlone 27 = .ok (.lrem, 1) := dk_113 (dk_at dksX1_isAlone_1 3 rfl rfl)
theorem dX1_isAlone_28 : decode cX1_isAlone 28 = .ok (.lconst 0, 1) := dk_9 (dk_at dksX1_isAlone_1 4 rfl rfl)
theorem dX1_isAlone_29 : decode cX1_isAlone 29 = .ok (.lcmp, 1) := dk_148 (dk_at dksX1_isAlone_1 5 rfl rfl)
theorem dX1_isAlone_30 : decode cX1_isAlone 30 = .ok (.ifCond .ne 36, 3) := dk_154 0 36 (dk_at dksX1_isAlone_1 6 rfl rfl)
theorem dX1_isAlone_33 : decode cX1_isAlone 33 = .ok (.lload_n 2, 1) := dk_32 (dk_at dksX1_isAlone_1 9 rfl rfl)
theorem dX1_isAlone_34 : decode cX1_isAlone 34 = .ok (.lload 11, 2) := dk_22 11 (dk_at dksX1_isAlone_1 10 rfl rfl)
theorem dX1_isAlone_36 : decode cX1_isAlone 36 = .ok (.lrem, 1) := dk_113 (dk_at dksX1_isAlone_1 12 rfl rfl)
theorem dX1_isAlone_37 : decode cX1_isAlone 37 = .ok (.lconst 0, 1) := dk_9 (dk_at dksX1_isAlone_1 13 rfl rfl)
theorem dX1_isAlone_38 : decode cX1_isAlone 38 = .ok (.lcmp, 1) := dk_148 (dk_at dksX1_isAlone_1 14 rfl rfl)
theorem dX1_isAlone_39 : decode cX1_isAlone 39 = .ok (.ifCond .ne 27, 3) := dk_154 0 27 (dk_at dksX1_isAlone_1 15 rfl rfl)
theorem dX1_isAlone_42 : decode cX1_isAlone 42 = .ok (.lload 4, 2) := dk_22 4 (dk_at dksX1_isAlone_1 18 rfl rfl)
theorem dX1_isAlone_44 : decode cX1_isAlone 44 = .ok (.lload 11, 2) := dk_22 11 (dk_at dksX1_isAlone_1 20 rfl rfl)
theorem dX1_isAlone_46 : decode cX1_isAlone 46 = .ok (.lrem, 1) := dk_113 (dk_at dksX1_isAlone_1 22 rfl rfl)
theorem dX1_isAlone_47 : decode cX1_isAlone 47 = .ok (.lconst 0, 1) := dk_9 (dk_at dksX1_isAlone_1 23 rfl rfl)
theorem dX1_isAlone_48 : decode cX1_isAlone 48 = .ok (.lcmp, 1) := dk_148 (dk_at dksX1_isAlone_2 0 rfl rfl)
theorem dX1_isAlone_49 : decode cX1_isAlone 49 = .ok (.ifCond .ne 17, 3) := dk_154 0 17 (dk_at dksX1_isAlone_2 1 rfl rfl)
theorem dX1_isAlone_52 : decode cX1_isAlone 52 = .ok (.lload 6, 2) := dk_22 6 (dk_at dksX1_isAlone_2 4 rfl rfl)
theorem dX1_isAlone_54 : decode cX1_isAlone 54 = .ok (.lload 11, 2) := dk_22 11 (dk_at dksX1_isAlone_2 6 rfl rfl)
theorem dX1_isAlone_56 : decode cX1_isAlone 56 = .ok (.lrem, 1) := dk_113 (dk_at dksX1_isAlone_2 8 rfl rfl)
theorem dX1_isAlone_57 : decode cX1_isAlone 57 = .ok (.lconst 0, 1) := dk_9 (dk_at dksX1_isAlone_2 9 rfl rfl)
theorem dX1_isAlone_58 : decode cX1_isAlone 58 = .ok (.lcmp, 1) := dk_148 (dk_at dksX1_isAlone_2 10 rfl rfl)
theorem dX1_isAlone_59 : decode cX1_isAlone 59 = .ok (.ifCond .ne 7, 3) := dk_154 0 7 (dk_at dksX1_isAlone_2 11 rfl rfl)
theorem dX1_isAlone_62 : decode cX1_isAlone 62 = .ok (.iconst 1, 1) := dk_4 (dk_at dksX1_isAlone_2 14 rfl rfl)
theorem dX1_isAlone_63 : decode cX1_isAlone 63 = .ok (.goto 4, 3) := dk_167 0 4 (dk_at dksX1_isAlone_2 15 rfl rfl)
theorem dX1_isAlone_66 : decode cX1_isAlone 66 = .ok (.iconst 0, 1) := dk_3 (dk_at dksX1_isAlone_2 18 rfl rfl)
theorem dX1_isAlone_67 : decode cX1_isAlone 67 = .ok (.istore 13, 2) := dk_54 13 (dk_at dksX1_isAlone_2 19 rfl rfl)
theorem dX1_isAlone_69 : decode cX1_isAlone 69 = .ok (.lload_n 0, 1) := dk_30 (dk_at dksX1_isAlone_2 21 rfl rfl)
theorem dX1_isAlone_70 : decode cX1_isAlone 70 = .ok (.lload 11, 2) := dk_22 11 (dk_at dksX1_isAlone_2 22 rfl rfl)
theorem dX1_isAlone_72 : decode cX1_isAlone 72 = .ok (.ldiv, 1) := dk_109 (dk_at dksX1_isAlone_3 0 rfl rfl)
theorem dX1_isAlone_73 : decode cX1_isAlone 73 = .ok (.lconst 1, 1) := dk_10 (dk_at dksX1_isAlone_3 1 rfl rfl)
theorem dX1_isAlone_74 : decode cX1_isAlone 74 = .ok (.land, 1) := dk_127 (dk_at dksX1_isAlone_3 2 rfl rfl)
theorem dX1_isAlone_75 : decode cX1_isAlone 75 = .ok (.lstore 14, 2) := dk_55 14 (dk_at dksX1_isAlone_3 3 rfl rfl)
theorem dX1_isAlone_77 : decode cX1_isAlone 77 = .ok (.iload 13, 2) := dk_21 13 (dk_at dksX1_isAlone_3 5 rfl rfl)
theorem dX1_isAlone_79 : decode cX1_isAlone 79 = .ok (.ifCond .eq 41, 3) := dk_153 0 41 (dk_at dksX1_isAlone_3 7 rfl rfl)
theorem dX1_isAlone_82 : decode cX1_isAlone 82 = .ok (.lload_n 2, 1) := dk_32 (dk_at dksX1_isAlone_3 10 rfl rfl)
theorem dX1_isAlone_83 : decode cX1_isAlone 83 = .ok (.lload 11, 2) := dk_22 11 (dk_at dksX1_isAlone_3 11 rfl rfl)
theorem dX1_isAlone_85 : decode cX1_isAlone 85 = .ok (.ldiv, 1) := dk_109 (dk_at dksX1_isAlone_3 13 rfl rfl)
theorem dX1_isAlone_86 : decode cX1_isAlone 86 = .ok (.lconst 1, 1) := dk_10 (dk_at dksX1_isAlone_3 14 rfl rfl)
theorem dX1_isAlone_87 : decode cX1_isAlone 87 = .ok (.land, 1) := dk_127 (dk_at dksX1_isAlone_3 15 rfl rfl)
theorem dX1_isAlone_88 : decode cX1_isAlone 88 = .ok (.lload 14, 2) := dk_22 14 (dk_at dksX1_isAlone_3 16 rfl rfl)
theorem dX1_isAlone_90 : decode cX1_isAlone 90 = .ok (.lcmp, 1) := dk_148 (dk_at dksX1_isAlone_3 18 rfl rfl)
theorem dX1_isAlone_91 : decode cX1_isAlone 91 = .ok (.ifCond .ne 29, 3) := dk_154 0 29 (dk_at dksX1_isAlone_3 19 rfl rfl)
theorem dX1_isAlone_94 : decode cX1_isAlone 94 = .ok (.lload 4, 2) := dk_22 4 (dk_at dksX1_isAlone_3 22 rfl rfl)
theorem dX1_isAlone_96 : decode cX1_isAlone 96 = .ok (.lload 11, 2) := dk_22 11 (dk_at dksX1_isAlone_4 0 rfl rfl)
theorem dX1_isAlone_98 : decode cX1_isAlone 98 = .ok (.ldiv, 1) := dk_109 (dk_at dksX1_isAlone_4 2 rfl rfl)
theorem dX1_isAlone_99 : decode cX1_isAlone 99 = .ok (.lconst 1, 1) := dk_10 (dk_at dksX1_isAlone_4 3 rfl rfl)
theorem dX1_isAlone_100 : decode cX1_isAlone 100 = .ok (.land, 1) := dk_127 (dk_at dksX1_isAlone_4 4 rfl rfl)
theorem dX1_isAlone_101 : decode cX1_isAlone 101 = .ok (.lload 14, 2) := dk_22 14 (dk_at dksX1_isAlone_4 5 rfl rfl)
theorem dX1_isAlone_103 : decode cX1_isAlone 103 = .ok (.lcmp, 1) := dk_148 (dk_at dksX1_isAlone_4 7 rfl rfl)
theorem dX1_isAlone_104 : decode cX1_isAlone 104 = .ok (.ifCond .ne 16, 3) := dk_154 0 16 (dk_at dksX1_isAlone_4 8 rfl rfl)
theorem dX1_isAlone_107 : decode cX1_isAlone 107 = .ok (.lload 6, 2) := dk_22 6 (dk_at dksX1_isAlone_4 11 rfl rfl)
theorem dX1_isAlone_109 : decode cX1_isAlone 109 = .ok (.lload 11, 2) := dk_22 11 (dk_at dksX1_isAlone_4 13 rfl rfl)
theorem dX1_isAlone_111 : decode cX1_isAlone 111 = .ok (.ldiv, 1) := dk_109 (dk_at dksX1_isAlone_4 15 rfl rfl)
theorem dX1_isAlone_112 : decode cX1_isAlone 112 = .ok (.lconst 1, 1) := dk_10 (dk_at dksX1_isAlone_4 16 rfl rfl)
theorem dX1_isAlone_113 : decode cX1_isAlone 113 = .ok (.land, 1) := dk_127 (dk_at dksX1_isAlone_4 17 rfl rfl)
theorem dX1_isAlone_114 : decode cX1_isAlone 114 = .ok (.lload 14, 2) := dk_22 14 (dk_at dksX1_isAlone_4 18 rfl rfl)
theorem dX1_isAlone_116 : decode cX1_isAlone 116 = .ok (.lcmp, 1) := dk_148 (dk_at dksX1_isAlone_4 20 rfl rfl)
theorem dX1_isAlone_117 : decode cX1_isAlone 117 = .ok (.ifCond .eq 7, 3) := dk_153 0 7 (dk_at dksX1_isAlone_4 21 rfl rfl)
theorem dX1_isAlone_120 : decode cX1_isAlone 120 = .ok (.iconst 1, 1) := dk_4 (dk_at dksX1_isAlone_5 0 rfl rfl)
theorem dX1_isAlone_121 : decode cX1_isAlone 121 = .ok (.goto 4, 3) := dk_167 0 4 (dk_at dksX1_isAlone_5 1 rfl rfl)
theorem dX1_isAlone_124 : decode cX1_isAlone 124 = .ok (.iconst 0, 1) := dk_3 (dk_at dksX1_isAlone_5 4 rfl rfl)
theorem dX1_isAlone_125 : decode cX1_isAlone 125 = .ok (.istore 10, 2) := dk_54 10 (dk_at dksX1_isAlone_5 5 rfl rfl)
theorem dX1_isAlone_127 : decode cX1_isAlone 127 = .ok (.lload 11, 2) := dk_22 11 (dk_at dksX1_isAlone_5 7 rfl rfl)
theorem dX1_isAlone_129 : decode cX1_isAlone 129 = .ok (.lconst 1, 1) := dk_10 (dk_at dksX1_isAlone_5 9 rfl rfl)
theorem dX1_isAlone_130 : decode cX1_isAlone 130 = .ok (.ladd, 1) := dk_97 (dk_at dksX1_isAlone_5 10 rfl rfl)
theorem dX1_isAlone_131 : decode cX1_isAlone 131 = .ok (.lstore 11, 2) := dk_55 11 (dk_at dksX1_isAlone_5 11 rfl rfl)
theorem dX1_isAlone_133 : decode cX1_isAlone 133 = .ok (.goto (-125), 3) := dk_167 255 131 (dk_at dksX1_isAlone_5 13 rfl rfl)
theorem dX1_isAlone_136 : decode cX1_isAlone 136 = .ok (.iload 10, 2) := dk_21 10 (dk_at dksX1_isAlone_5 16 rfl rfl)
theorem dX1_isAlone_138 : decode cX1_isAlone 138 = .ok (.ireturn, 1) := dk_172 (dk_at dksX1_isAlone_5 18 rfl rfl)
abbrev cX1_isOne : ByteArray := prog_2_method_8_code
def yX1_isOne : MethodName := ⟨RX1, "isOne", "(LFourParts$Four;)Z"⟩
def dkwX1_isOne_2 : List UInt8 := [4, 167, 0, 4, 3, 172]
abbrev dktX1_isOne_2 : List UInt8 := dkwX1_isOne_2 ++ []
def dkwX1_isOne_1 : List UInt8 := [42, 180, 0, 18, 43, 180, 0, 18, 148, 154, 0, 19, 42, 180, 0, 21, 43, 180, 0, 21, 148, 154, 0, 7]
abbrev dktX1_isOne_1 : List UInt8 := dkwX1_isOne_1 ++ dktX1_isOne_2
def dkwX1_isOne_0 : List UInt8 := [42, 180, 0, 9, 43, 180, 0, 9, 148, 154, 0, 43, 42, 180, 0, 15, 43, 180, 0, 15, 148, 154, 0, 31]
abbrev dktX1_isOne_0 : List UInt8 := dkwX1_isOne_0 ++ dktX1_isOne_1
theorem dksX1_isOne_0 : cX1_isOne.data.toList.drop 0 = dktX1_isOne_0 := by decide +kernel
theorem dksX1_isOne_1 : cX1_isOne.data.toList.drop 24 = dktX1_isOne_1 := dk_seg dksX1_isOne_0 24 rfl rfl
theorem dksX1_isOne_2 : cX1_isOne.data.toList.drop 48 = dktX1_isOne_2 := dk_seg dksX1_isOne_1 24 rfl rfl
theorem dX1_isOne_0 : decode cX1_isOne 0 = .ok (.aload_n 0, 1) := dk_42 (dk_at dksX1_isOne_0 0 rfl rfl)
theorem dX1_isOne_1 : decode cX1_isOne 1 = .ok (.getfield 9, 3) := dk_180 0 9 (dk_at dksX1_isOne_0 1 rfl rfl)
theorem dX1_isOne_4 : decode cX1_isOne 4 = .ok (.aload_n 1, 1) := dk_43 (dk_at dksX1_isOne_0 4 rfl rfl)
theorem dX1_isOne_5 : decode cX1_isOne 5 = .ok (.getfield 9, 3) := dk_180 0 9 (dk_at dksX1_isOne_0 5 rfl rfl)
theorem dX1_isOne_8 : decode cX1_isOne 8 = .ok (.lcmp, 1) := dk_148 (dk_at dksX1_isOne_0 8 rfl rfl)
theorem dX1_isOne_9 : decode cX1_isOne 9 = .ok (.ifCond .ne 43, 3) := dk_154 0 43 (dk_at dksX1_isOne_0 9 rfl rfl)
theorem dX1_isOne_12 : decode cX1_isOne 12 = .ok (.aload_n 0, 1) := dk_42 (dk_at dksX1_isOne_0 12 rfl rfl)
theorem dX1_isOne_13 : decode cX1_isOne 13 = .ok (.getfield 15, 3) := dk_180 0 15 (dk_at dksX1_isOne_0 13 rfl rfl)
theorem dX1_isOne_16 : decode cX1_isOne 16 = .ok (.aload_n 1, 1) := dk_43 (dk_at dksX1_isOne_0 16 rfl rfl)
theorem dX1_isOne_17 : decode cX1_isOne 17 = .ok (.getfield 15, 3) := dk_180 0 15 (dk_at dksX1_isOne_0 17 rfl rfl)
theorem dX1_isOne_20 : decode cX1_isOne 20 = .ok (.lcmp, 1) := dk_148 (dk_at dksX1_isOne_0 20 rfl rfl)
theorem dX1_isOne_21 : decode cX1_isOne 21 = .ok (.ifCond .ne 31, 3) := dk_154 0 31 (dk_at dksX1_isOne_0 21 rfl rfl)
theorem dX1_isOne_24 : decode cX1_isOne 24 = .ok (.aload_n 0, 1) := dk_42 (dk_at dksX1_isOne_1 0 rfl rfl)
theorem dX1_isOne_25 : decode cX1_isOne 25 = .ok (.getfield 18, 3) := dk_180 0 18 (dk_at dksX1_isOne_1 1 rfl rfl)
theorem dX1_isOne_28 : decode cX1_isOne 28 = .ok (.aload_n 1, 1) := dk_43 (dk_at dksX1_isOne_1 4 rfl rfl)
theorem dX1_isOne_29 : decode cX1_isOne 29 = .ok (.getfield 18, 3) := dk_180 0 18 (dk_at dksX1_isOne_1 5 rfl rfl)
theorem dX1_isOne_32 : decode cX1_isOne 32 = .ok (.lcmp, 1) := dk_148 (dk_at dksX1_isOne_1 8 rfl rfl)
theorem dX1_isOne_33 : decode cX1_isOne 33 = .ok (.ifCond .ne 19, 3) := dk_154 0 19 (dk_at dksX1_isOne_1 9 rfl rfl)
theorem dX1_isOne_36 : decode cX1_isOne 36 = .ok (.aload_n 0, 1) := dk_42 (dk_at dksX1_isOne_1 12 rfl rfl)
theorem dX1_isOne_37 : decode cX1_isOne 37 = .ok (.getfield 21, 3) := dk_180 0 21 (dk_at dksX1_isOne_1 13 rfl rfl)
theorem dX1_isOne_40 : decode cX1_isOne 40 = .ok (.aload_n 1, 1) := dk_43 (dk_at dksX1_isOne_1 16 rfl rfl)
theorem dX1_isOne_41 : decode cX1_isOne 41 = .ok (.getfield 21, 3) := dk_180 0 21 (dk_at dksX1_isOne_1 17 rfl rfl)
theorem dX1_isOne_44 : decode cX1_isOne 44 = .ok (.lcmp, 1) := dk_148 (dk_at dksX1_isOne_1 20 rfl rfl)
theorem dX1_isOne_45 : decode cX1_isOne 45 = .ok (.ifCond .ne 7, 3) := dk_154 0 7 (dk_at dksX1_isOne_1 21 rfl rfl)
theorem dX1_isOne_48 : decode cX1_isOne 48 = .ok (.iconst 1, 1) := dk_4 (dk_at dksX1_isOne_2 0 rfl rfl)
theorem dX1_isOne_49 : decode cX1_isOne 49 = .ok (.goto 4, 3) := dk_167 0 4 (dk_at dksX1_isOne_2 1 rfl rfl)
theorem dX1_isOne_52 : decode cX1_isOne 52 = .ok (.iconst 0, 1) := dk_3 (dk_at dksX1_isOne_2 4 rfl rfl)
theorem dX1_isOne_53 : decode cX1_isOne 53 = .ok (.ireturn, 1) := dk_172 (dk_at dksX1_isOne_2 5 rfl rfl)
abbrev cX1_plus : ByteArray := prog_2_method_5_code
def yX1_plus : MethodName := ⟨RX1, "plus", "(LFourParts$Four;J)LFourParts$Four;"⟩
def dkwX1_plus_2 : List UInt8 := [183, 0, 42, 176]
abbrev dktX1_plus_2 : List UInt8 := dkwX1_plus_2 ++ []
def dkwX1_plus_1 : List UInt8 := [105, 97, 42, 180, 0, 18, 32, 43, 180, 0, 18, 105, 97, 42, 180, 0, 21, 32, 43, 180, 0, 21, 105, 97]
abbrev dktX1_plus_1 : List UInt8 := dkwX1_plus_1 ++ dktX1_plus_2
def dkwX1_plus_0 : List UInt8 := [187, 0, 10, 89, 42, 180, 0, 9, 32, 43, 180, 0, 9, 105, 97, 42, 180, 0, 15, 32, 43, 180, 0, 15]
abbrev dktX1_plus_0 : List UInt8 := dkwX1_plus_0 ++ dktX1_plus_1
theorem dksX1_plus_0 : cX1_plus.data.toList.drop 0 = dktX1_plus_0 := by decide +kernel
theorem dksX1_plus_1 : cX1_plus.data.toList.drop 24 = dktX1_plus_1 := dk_seg dksX1_plus_0 24 rfl rfl
theorem dksX1_plus_2 : cX1_plus.data.toList.drop 48 = dktX1_plus_2 := dk_seg dksX1_plus_1 24 rfl rfl
theorem dX1_plus_0 : decode cX1_plus 0 = .ok (.new 10, 3) := dk_187 0 10 (dk_at dksX1_plus_0 0 rfl rfl)
theorem dX1_plus_3 : decode cX1_plus 3 = .ok (.dup, 1) := dk_89 (dk_at dksX1_plus_0 3 rfl rfl)
theorem dX1_plus_4 : decode cX1_plus 4 = .ok (.aload_n 0, 1) := dk_42 (dk_at dksX1_plus_0 4 rfl rfl)
theorem dX1_plus_5 : decode cX1_plus 5 = .ok (.getfield 9, 3) := dk_180 0 9 (dk_at dksX1_plus_0 5 rfl rfl)
theorem dX1_plus_8 : decode cX1_plus 8 = .ok (.lload_n 2, 1) := dk_32 (dk_at dksX1_plus_0 8 rfl rfl)
theorem dX1_plus_9 : decode cX1_plus 9 = .ok (.aload_n 1, 1) := dk_43 (dk_at dksX1_plus_0 9 rfl rfl)
theorem dX1_plus_10 : decode cX1_plus 10 = .ok (.getfield 9, 3) := dk_180 0 9 (dk_at dksX1_plus_0 10 rfl rfl)
theorem dX1_plus_13 : decode cX1_plus 13 = .ok (.lmul, 1) := dk_105 (dk_at dksX1_plus_0 13 rfl rfl)
theorem dX1_plus_14 : decode cX1_plus 14 = .ok (.ladd, 1) := dk_97 (dk_at dksX1_plus_0 14 rfl rfl)
theorem dX1_plus_15 : decode cX1_plus 15 = .ok (.aload_n 0, 1) := dk_42 (dk_at dksX1_plus_0 15 rfl rfl)
theorem dX1_plus_16 : decode cX1_plus 16 = .ok (.getfield 15, 3) := dk_180 0 15 (dk_at dksX1_plus_0 16 rfl rfl)
theorem dX1_plus_19 : decode cX1_plus 19 = .ok (.lload_n 2, 1) := dk_32 (dk_at dksX1_plus_0 19 rfl rfl)
theorem dX1_plus_20 : decode cX1_plus 20 = .ok (.aload_n 1, 1) := dk_43 (dk_at dksX1_plus_0 20 rfl rfl)
theorem dX1_plus_21 : decode cX1_plus 21 = .ok (.getfield 15, 3) := dk_180 0 15 (dk_at dksX1_plus_0 21 rfl rfl)
theorem dX1_plus_24 : decode cX1_plus 24 = .ok (.lmul, 1) := dk_105 (dk_at dksX1_plus_1 0 rfl rfl)
theorem dX1_plus_25 : decode cX1_plus 25 = .ok (.ladd, 1) := dk_97 (dk_at dksX1_plus_1 1 rfl rfl)
theorem dX1_plus_26 : decode cX1_plus 26 = .ok (.aload_n 0, 1) := dk_42 (dk_at dksX1_plus_1 2 rfl rfl)
theorem dX1_plus_27 : decode cX1_plus 27 = .ok (.getfield 18, 3) := dk_180 0 18 (dk_at dksX1_plus_1 3 rfl rfl)
theorem dX1_plus_30 : decode cX1_plus 30 = .ok (.lload_n 2, 1) := dk_32 (dk_at dksX1_plus_1 6 rfl rfl)
theorem dX1_plus_31 : decode cX1_plus 31 = .ok (.aload_n 1, 1) := dk_43 (dk_at dksX1_plus_1 7 rfl rfl)
theorem dX1_plus_32 : decode cX1_plus 32 = .ok (.getfield 18, 3) := dk_180 0 18 (dk_at dksX1_plus_1 8 rfl rfl)
theorem dX1_plus_35 : decode cX1_plus 35 = .ok (.lmul, 1) := dk_105 (dk_at dksX1_plus_1 11 rfl rfl)
theorem dX1_plus_36 : decode cX1_plus 36 = .ok (.ladd, 1) := dk_97 (dk_at dksX1_plus_1 12 rfl rfl)
theorem dX1_plus_37 : decode cX1_plus 37 = .ok (.aload_n 0, 1) := dk_42 (dk_at dksX1_plus_1 13 rfl rfl)
theorem dX1_plus_38 : decode cX1_plus 38 = .ok (.getfield 21, 3) := dk_180 0 21 (dk_at dksX1_plus_1 14 rfl rfl)
theorem dX1_plus_41 : decode cX1_plus 41 = .ok (.lload_n 2, 1) := dk_32 (dk_at dksX1_plus_1 17 rfl rfl)
theorem dX1_plus_42 : decode cX1_plus 42 = .ok (.aload_n 1, 1) := dk_43 (dk_at dksX1_plus_1 18 rfl rfl)
theorem dX1_plus_43 : decode cX1_plus 43 = .ok (.getfield 21, 3) := dk_180 0 21 (dk_at dksX1_plus_1 19 rfl rfl)
theorem dX1_plus_46 : decode cX1_plus 46 = .ok (.lmul, 1) := dk_105 (dk_at dksX1_plus_1 22 rfl rfl)
theorem dX1_plus_47 : decode cX1_plus 47 = .ok (.ladd, 1) := dk_97 (dk_at dksX1_plus_1 23 rfl rfl)
theorem dX1_plus_48 : decode cX1_plus 48 = .ok (.invokespecial 42, 3) := dk_183 0 42 (dk_at dksX1_plus_2 0 rfl rfl)
theorem dX1_plus_51 : decode cX1_plus 51 = .ok (.areturn, 1) := dk_176 (dk_at dksX1_plus_2 3 rfl rfl)
abbrev cX1_times : ByteArray := prog_2_method_7_code
def yX1_times : MethodName := ⟨RX1, "times", "(LFourParts$Four;)LFourParts$Four;"⟩
def dkwX1_times_7 : List UInt8 := [180, 0, 9, 105, 97, 20, 0, 45, 109, 183, 0, 42, 176]
abbrev dktX1_times_7 : List UInt8 := dkwX1_times_7 ++ []
def dkwX1_times_6 : List UInt8 := [180, 0, 15, 43, 180, 0, 18, 105, 97, 42, 180, 0, 18, 43, 180, 0, 15, 105, 101, 42, 180, 0, 21, 43]
abbrev dktX1_times_6 : List UInt8 := dkwX1_times_6 ++ dktX1_times_7
def dkwX1_times_5 : List UInt8 := [42, 180, 0, 21, 43, 180, 0, 15, 105, 97, 20, 0, 45, 109, 42, 180, 0, 9, 43, 180, 0, 21, 105, 42]
abbrev dktX1_times_5 : List UInt8 := dkwX1_times_5 ++ dktX1_times_6
def dkwX1_times_4 : List UInt8 := [180, 0, 18, 105, 42, 180, 0, 15, 43, 180, 0, 21, 105, 101, 42, 180, 0, 18, 43, 180, 0, 9, 105, 97]
abbrev dktX1_times_4 : List UInt8 := dkwX1_times_4 ++ dktX1_times_5
def dkwX1_times_3 : List UInt8 := [180, 0, 21, 105, 97, 42, 180, 0, 21, 43, 180, 0, 18, 105, 101, 20, 0, 45, 109, 42, 180, 0, 9, 43]
abbrev dktX1_times_3 : List UInt8 := dkwX1_times_3 ++ dktX1_times_4
def dkwX1_times_2 : List UInt8 := [180, 0, 9, 43, 180, 0, 15, 105, 42, 180, 0, 15, 43, 180, 0, 9, 105, 97, 42, 180, 0, 18, 43]
abbrev dktX1_times_2 : List UInt8 := dkwX1_times_2 ++ dktX1_times_3
def dkwX1_times_1 : List UInt8 := [180, 0, 18, 43, 180, 0, 18, 105, 101, 42, 180, 0, 21, 43, 180, 0, 21, 105, 101, 20, 0, 45, 109, 42]
abbrev dktX1_times_1 : List UInt8 := dkwX1_times_1 ++ dktX1_times_2
def dkwX1_times_0 : List UInt8 := [187, 0, 10, 89, 42, 180, 0, 9, 43, 180, 0, 9, 105, 42, 180, 0, 15, 43, 180, 0, 15, 105, 101, 42]
abbrev dktX1_times_0 : List UInt8 := dkwX1_times_0 ++ dktX1_times_1
theorem dksX1_times_0 : cX1_times.data.toList.drop 0 = dktX1_times_0 := by decide +kernel
theorem dksX1_times_1 : cX1_times.data.toList.drop 24 = dktX1_times_1 := dk_seg dksX1_times_0 24 rfl rfl
theorem dksX1_times_2 : cX1_times.data.toList.drop 48 = dktX1_times_2 := dk_seg dksX1_times_1 24 rfl rfl
theorem dksX1_times_3 : cX1_times.data.toList.drop 71 = dktX1_times_3 := dk_seg dksX1_times_2 23 rfl rfl
theorem dksX1_times_4 : cX1_times.data.toList.drop 95 = dktX1_times_4 := dk_seg dksX1_times_3 24 rfl rfl
theorem dksX1_times_5 : cX1_times.data.toList.drop 119 = dktX1_times_5 := dk_seg dksX1_times_4 24 rfl rfl
theorem dksX1_times_6 : cX1_times.data.toList.drop 143 = dktX1_times_6 := dk_seg dksX1_times_5 24 rfl rfl
theorem dksX1_times_7 : cX1_times.data.toList.drop 167 = dktX1_times_7 := dk_seg dksX1_times_6 24 rfl rfl
theorem dX1_times_0 : decode cX1_times 0 = .ok (.new 10, 3) := dk_187 0 10 (dk_at dksX1_times_0 0 rfl rfl)
theorem dX1_times_3 : decode cX1_times 3 = .ok (.dup, 1) := dk_89 (dk_at dksX1_times_0 3 rfl rfl)
theorem dX1_times_4 : decode cX1_times 4 = .ok (.aload_n 0, 1) := dk_42 (dk_at dksX1_times_0 4 rfl rfl)
theorem dX1_times_5 : decode cX1_times 5 = .ok (.getfield 9, 3) := dk_180 0 9 (dk_at dksX1_times_0 5 rfl rfl)
theorem dX1_times_8 : decode cX1_times 8 = .ok (.aload_n 1, 1) := dk_43 (dk_at dksX1_times_0 8 rfl rfl)
theorem dX1_times_9 : decode cX1_times 9 = .ok (.getfield 9, 3) := dk_180 0 9 (dk_at dksX1_times_0 9 rfl rfl)
theorem dX1_times_12 : decode cX1_times 12 = .ok (.lmul, 1) := dk_105 (dk_at dksX1_times_0 12 rfl rfl)
theorem dX1_times_13 : decode cX1_times 13 = .ok (.aload_n 0, 1) := dk_42 (dk_at dksX1_times_0 13 rfl rfl)
theorem dX1_times_14 : decode cX1_times 14 = .ok (.getfield 15, 3) := dk_180 0 15 (dk_at dksX1_times_0 14 rfl rfl)
theorem dX1_times_17 : decode cX1_times 17 = .ok (.aload_n 1, 1) := dk_43 (dk_at dksX1_times_0 17 rfl rfl)
theorem dX1_times_18 : decode cX1_times 18 = .ok (.getfield 15, 3) := dk_180 0 15 (dk_at dksX1_times_0 18 rfl rfl)
theorem dX1_times_21 : decode cX1_times 21 = .ok (.lmul, 1) := dk_105 (dk_at dksX1_times_0 21 rfl rfl)
theorem dX1_times_22 : decode cX1_times 22 = .ok (.lsub, 1) := dk_101 (dk_at dksX1_times_0 22 rfl rfl)
theorem dX1_times_23 : decode cX1_times 23 = .ok (.aload_n 0, 1) := dk_42 (dk_at dksX1_times_0 23 rfl rfl)
theorem dX1_times_24 : decode cX1_times 24 = .ok (.getfield 18, 3) := dk_180 0 18 (dk_at dksX1_times_1 0 rfl rfl)
theorem dX1_times_27 : decode cX1_times 27 = .ok (.aload_n 1, 1) := dk_43 (dk_at dksX1_times_1 3 rfl rfl)
theorem dX1_times_28 : decode cX1_times 28 = .ok (.getfield 18, 3) := dk_180 0 18 (dk_at dksX1_times_1 4 rfl rfl)
theorem dX1_times_31 : decode cX1_times 31 = .ok (.lmul, 1) := dk_105 (dk_at dksX1_times_1 7 rfl rfl)
theorem dX1_times_32 : decode cX1_times 32 = .ok (.lsub, 1) := dk_101 (dk_at dksX1_times_1 8 rfl rfl)
theorem dX1_times_33 : decode cX1_times 33 = .ok (.aload_n 0, 1) := dk_42 (dk_at dksX1_times_1 9 rfl rfl)
theorem dX1_times_34 : decode cX1_times 34 = .ok (.getfield 21, 3) := dk_180 0 21 (dk_at dksX1_times_1 10 rfl rfl)
theorem dX1_times_37 : decode cX1_times 37 = .ok (.aload_n 1, 1) := dk_43 (dk_at dksX1_times_1 13 rfl rfl)
theorem dX1_times_38 : decode cX1_times 38 = .ok (.getfield 21, 3) := dk_180 0 21 (dk_at dksX1_times_1 14 rfl rfl)
theorem dX1_times_41 : decode cX1_times 41 = .ok (.lmul, 1) := dk_105 (dk_at dksX1_times_1 17 rfl rfl)
theorem dX1_times_42 : decode cX1_times 42 = .ok (.lsub, 1) := dk_101 (dk_at dksX1_times_1 18 rfl rfl)
theorem dX1_times_43 : decode cX1_times 43 = .ok (.ldc2_w 45, 3) := dk_20 0 45 (dk_at dksX1_times_1 19 rfl rfl)
theorem dX1_times_46 : decode cX1_times 46 = .ok (.ldiv, 1) := dk_109 (dk_at dksX1_times_1 22 rfl rfl)
theorem dX1_times_47 : decode cX1_times 47 = .ok (.aload_n 0, 1) := dk_42 (dk_at dksX1_times_1 23 rfl rfl)
theorem dX1_times_48 : decode cX1_times 48 = .ok (.getfield 9, 3) := dk_180 0 9 (dk_at dksX1_times_2 0 rfl rfl)
theorem dX1_times_51 : decode cX1_times 51 = .ok (.aload_n 1, 1) := dk_43 (dk_at dksX1_times_2 3 rfl rfl)
theorem dX1_times_52 : decode cX1_times 52 = .ok (.getfield 15, 3) := dk_180 0 15 (dk_at dksX1_times_2 4 rfl rfl)
theorem dX1_times_55 : decode cX1_times 55 = .ok (.lmul, 1) := dk_105 (dk_at dksX1_times_2 7 rfl rfl)
theorem dX1_times_56 : decode cX1_times 56 = .ok (.aload_n 0, 1) := dk_42 (dk_at dksX1_times_2 8 rfl rfl)
theorem dX1_times_57 : decode cX1_times 57 = .ok (.getfield 15, 3) := dk_180 0 15 (dk_at dksX1_times_2 9 rfl rfl)
theorem dX1_times_60 : decode cX1_times 60 = .ok (.aload_n 1, 1) := dk_43 (dk_at dksX1_times_2 12 rfl rfl)
theorem dX1_times_61 : decode cX1_times 61 = .ok (.getfield 9, 3) := dk_180 0 9 (dk_at dksX1_times_2 13 rfl rfl)
theorem dX1_times_64 : decode cX1_times 64 = .ok (.lmul, 1) := dk_105 (dk_at dksX1_times_2 16 rfl rfl)
theorem dX1_times_65 : decode cX1_times 65 = .ok (.ladd, 1) := dk_97 (dk_at dksX1_times_2 17 rfl rfl)
theorem dX1_times_66 : decode cX1_times 66 = .ok (.aload_n 0, 1) := dk_42 (dk_at dksX1_times_2 18 rfl rfl)
theorem dX1_times_67 : decode cX1_times 67 = .ok (.getfield 18, 3) := dk_180 0 18 (dk_at dksX1_times_2 19 rfl rfl)
theorem dX1_times_70 : decode cX1_times 70 = .ok (.aload_n 1, 1) := dk_43 (dk_at dksX1_times_2 22 rfl rfl)
theorem dX1_times_71 : decode cX1_times 71 = .ok (.getfield 21, 3) := dk_180 0 21 (dk_at dksX1_times_3 0 rfl rfl)
theorem dX1_times_74 : decode cX1_times 74 = .ok (.lmul, 1) := dk_105 (dk_at dksX1_times_3 3 rfl rfl)
theorem dX1_times_75 : decode cX1_times 75 = .ok (.ladd, 1) := dk_97 (dk_at dksX1_times_3 4 rfl rfl)
theorem dX1_times_76 : decode cX1_times 76 = .ok (.aload_n 0, 1) := dk_42 (dk_at dksX1_times_3 5 rfl rfl)
theorem dX1_times_77 : decode cX1_times 77 = .ok (.getfield 21, 3) := dk_180 0 21 (dk_at dksX1_times_3 6 rfl rfl)
theorem dX1_times_80 : decode cX1_times 80 = .ok (.aload_n 1, 1) := dk_43 (dk_at dksX1_times_3 9 rfl rfl)
theorem dX1_times_81 : decode cX1_times 81 = .ok (.getfield 18, 3) := dk_180 0 18 (dk_at dksX1_times_3 10 rfl rfl)
theorem dX1_times_84 : decode cX1_times 84 = .ok (.lmul, 1) := dk_105 (dk_at dksX1_times_3 13 rfl rfl)
theorem dX1_times_85 : decode cX1_times 85 = .ok (.lsub, 1) := dk_101 (dk_at dksX1_times_3 14 rfl rfl)
theorem dX1_times_86 : decode cX1_times 86 = .ok (.ldc2_w 45, 3) := dk_20 0 45 (dk_at dksX1_times_3 15 rfl rfl)
theorem dX1_times_89 : decode cX1_times 89 = .ok (.ldiv, 1) := dk_109 (dk_at dksX1_times_3 18 rfl rfl)
theorem dX1_times_90 : decode cX1_times 90 = .ok (.aload_n 0, 1) := dk_42 (dk_at dksX1_times_3 19 rfl rfl)
theorem dX1_times_91 : decode cX1_times 91 = .ok (.getfield 9, 3) := dk_180 0 9 (dk_at dksX1_times_3 20 rfl rfl)
theorem dX1_times_94 : decode cX1_times 94 = .ok (.aload_n 1, 1) := dk_43 (dk_at dksX1_times_3 23 rfl rfl)
theorem dX1_times_95 : decode cX1_times 95 = .ok (.getfield 18, 3) := dk_180 0 18 (dk_at dksX1_times_4 0 rfl rfl)
theorem dX1_times_98 : decode cX1_times 98 = .ok (.lmul, 1) := dk_105 (dk_at dksX1_times_4 3 rfl rfl)
theorem dX1_times_99 : decode cX1_times 99 = .ok (.aload_n 0, 1) := dk_42 (dk_at dksX1_times_4 4 rfl rfl)
theorem dX1_times_100 : decode cX1_times 100 = .ok (.getfield 15, 3) := dk_180 0 15 (dk_at dksX1_times_4 5 rfl rfl)
theorem dX1_times_103 : decode cX1_times 103 = .ok (.aload_n 1, 1) := dk_43 (dk_at dksX1_times_4 8 rfl rfl)
theorem dX1_times_104 : decode cX1_times 104 = .ok (.getfield 21, 3) := dk_180 0 21 (dk_at dksX1_times_4 9 rfl rfl)
theorem dX1_times_107 : decode cX1_times 107 = .ok (.lmul, 1) := dk_105 (dk_at dksX1_times_4 12 rfl rfl)
theorem dX1_times_108 : decode cX1_times 108 = .ok (.lsub, 1) := dk_101 (dk_at dksX1_times_4 13 rfl rfl)
theorem dX1_times_109 : decode cX1_times 109 = .ok (.aload_n 0, 1) := dk_42 (dk_at dksX1_times_4 14 rfl rfl)
theorem dX1_times_110 : decode cX1_times 110 = .ok (.getfield 18, 3) := dk_180 0 18 (dk_at dksX1_times_4 15 rfl rfl)
theorem dX1_times_113 : decode cX1_times 113 = .ok (.aload_n 1, 1) := dk_43 (dk_at dksX1_times_4 18 rfl rfl)
theorem dX1_times_114 : decode cX1_times 114 = .ok (.getfield 9, 3) := dk_180 0 9 (dk_at dksX1_times_4 19 rfl rfl)
theorem dX1_times_117 : decode cX1_times 117 = .ok (.lmul, 1) := dk_105 (dk_at dksX1_times_4 22 rfl rfl)
theorem dX1_times_118 : decode cX1_times 118 = .ok (.ladd, 1) := dk_97 (dk_at dksX1_times_4 23 rfl rfl)
theorem dX1_times_119 : decode cX1_times 119 = .ok (.aload_n 0, 1) := dk_42 (dk_at dksX1_times_5 0 rfl rfl)
theorem dX1_times_120 : decode cX1_times 120 = .ok (.getfield 21, 3) := dk_180 0 21 (dk_at dksX1_times_5 1 rfl rfl)
theorem dX1_times_123 : decode cX1_times 123 = .ok (.aload_n 1, 1) := dk_43 (dk_at dksX1_times_5 4 rfl rfl)
theorem dX1_times_124 : decode cX1_times 124 = .ok (.getfield 15, 3) := dk_180 0 15 (dk_at dksX1_times_5 5 rfl rfl)
theorem dX1_times_127 : decode cX1_times 127 = .ok (.lmul, 1) := dk_105 (dk_at dksX1_times_5 8 rfl rfl)
theorem dX1_times_128 : decode cX1_times 128 = .ok (.ladd, 1) := dk_97 (dk_at dksX1_times_5 9 rfl rfl)
theorem dX1_times_129 : decode cX1_times 129 = .ok (.ldc2_w 45, 3) := dk_20 0 45 (dk_at dksX1_times_5 10 rfl rfl)
theorem dX1_times_132 : decode cX1_times 132 = .ok (.ldiv, 1) := dk_109 (dk_at dksX1_times_5 13 rfl rfl)
theorem dX1_times_133 : decode cX1_times 133 = .ok (.aload_n 0, 1) := dk_42 (dk_at dksX1_times_5 14 rfl rfl)
theorem dX1_times_134 : decode cX1_times 134 = .ok (.getfield 9, 3) := dk_180 0 9 (dk_at dksX1_times_5 15 rfl rfl)
theorem dX1_times_137 : decode cX1_times 137 = .ok (.aload_n 1, 1) := dk_43 (dk_at dksX1_times_5 18 rfl rfl)
theorem dX1_times_138 : decode cX1_times 138 = .ok (.getfield 21, 3) := dk_180 0 21 (dk_at dksX1_times_5 19 rfl rfl)
theorem dX1_times_141 : decode cX1_times 141 = .ok (.lmul, 1) := dk_105 (dk_at dksX1_times_5 22 rfl rfl)
theorem dX1_times_142 : decode cX1_times 142 = .ok (.aload_n 0, 1) := dk_42 (dk_at dksX1_times_5 23 rfl rfl)
theorem dX1_times_143 : decode cX1_times 143 = .ok (.getfield 15, 3) := dk_180 0 15 (dk_at dksX1_times_6 0 rfl rfl)
theorem dX1_times_146 : decode cX1_times 146 = .ok (.aload_n 1, 1) := dk_43 (dk_at dksX1_times_6 3 rfl rfl)
theorem dX1_times_147 : decode cX1_times 147 = .ok (.getfield 18, 3) := dk_180 0 18 (dk_at dksX1_times_6 4 rfl rfl)
theorem dX1_times_150 : decode cX1_times 150 = .ok (.lmul, 1) := dk_105 (dk_at dksX1_times_6 7 rfl rfl)
theorem dX1_times_151 : decode cX1_times 151 = .ok (.ladd, 1) := dk_97 (dk_at dksX1_times_6 8 rfl rfl)
theorem dX1_times_152 : decode cX1_times 152 = .ok (.aload_n 0, 1) := dk_42 (dk_at dksX1_times_6 9 rfl rfl)
theorem dX1_times_153 : decode cX1_times 153 = .ok (.getfield 18, 3) := dk_180 0 18 (dk_at dksX1_times_6 10 rfl rfl)
theorem dX1_times_156 : decode cX1_times 156 = .ok (.aload_n 1, 1) := dk_43 (dk_at dksX1_times_6 13 rfl rfl)
theorem dX1_times_157 : decode cX1_times 157 = .ok (.getfield 15, 3) := dk_180 0 15 (dk_at dksX1_times_6 14 rfl rfl)
theorem dX1_times_160 : decode cX1_times 160 = .ok (.lmul, 1) := dk_105 (dk_at dksX1_times_6 17 rfl rfl)
theorem dX1_times_161 : decode cX1_times 161 = .ok (.lsub, 1) := dk_101 (dk_at dksX1_times_6 18 rfl rfl)
theorem dX1_times_162 : decode cX1_times 162 = .ok (.aload_n 0, 1) := dk_42 (dk_at dksX1_times_6 19 rfl rfl)
theorem dX1_times_163 : decode cX1_times 163 = .ok (.getfield 21, 3) := dk_180 0 21 (dk_at dksX1_times_6 20 rfl rfl)
theorem dX1_times_166 : decode cX1_times 166 = .ok (.aload_n 1, 1) := dk_43 (dk_at dksX1_times_6 23 rfl rfl)
theorem dX1_times_167 : decode cX1_times 167 = .ok (.getfield 9, 3) := dk_180 0 9 (dk_at dksX1_times_7 0 rfl rfl)
theorem dX1_times_170 : decode cX1_times 170 = .ok (.lmul, 1) := dk_105 (dk_at dksX1_times_7 3 rfl rfl)
theorem dX1_times_171 : decode cX1_times 171 = .ok (.ladd, 1) := dk_97 (dk_at dksX1_times_7 4 rfl rfl)
theorem dX1_times_172 : decode cX1_times 172 = .ok (.ldc2_w 45, 3) := dk_20 0 45 (dk_at dksX1_times_7 5 rfl rfl)
theorem dX1_times_175 : decode cX1_times 175 = .ok (.ldiv, 1) := dk_109 (dk_at dksX1_times_7 8 rfl rfl)
theorem dX1_times_176 : decode cX1_times 176 = .ok (.invokespecial 42, 3) := dk_183 0 42 (dk_at dksX1_times_7 9 rfl rfl)
theorem dX1_times_179 : decode cX1_times 179 = .ok (.areturn, 1) := dk_176 (dk_at dksX1_times_7 12 rfl rfl)
abbrev cX1_mirror : ByteArray := prog_2_method_6_code
def yX1_mirror : MethodName := ⟨RX1, "mirror", "()LFourParts$Four;"⟩
def dkwX1_mirror_1 : List UInt8 := [183, 0, 42, 176]
abbrev dktX1_mirror_1 : List UInt8 := dkwX1_mirror_1 ++ []
def dkwX1_mirror_0 : List UInt8 := [187, 0, 10, 89, 42, 180, 0, 9, 42, 180, 0, 15, 117, 42, 180, 0, 18, 117, 42, 180, 0, 21, 117]
abbrev dktX1_mirror_0 : List UInt8 := dkwX1_mirror_0 ++ dktX1_mirror_1
theorem dksX1_mirror_0 : cX1_mirror.data.toList.drop 0 = dktX1_mirror_0 := by decide +kernel
theorem dksX1_mirror_1 : cX1_mirror.data.toList.drop 23 = dktX1_mirror_1 := dk_seg dksX1_mirror_0 23 rfl rfl
theorem dX1_mirror_0 : decode cX1_mirror 0 = .ok (.new 10, 3) := dk_187 0 10 (dk_at dksX1_mirror_0 0 rfl rfl)
theorem dX1_mirror_3 : decode cX1_mirror 3 = .ok (.dup, 1) := dk_89 (dk_at dksX1_mirror_0 3 rfl rfl)
theorem dX1_mirror_4 : decode cX1_mirror 4 = .ok (.aload_n 0, 1) := dk_42 (dk_at dksX1_mirror_0 4 rfl rfl)
theorem dX1_mirror_5 : decode cX1_mirror 5 = .ok (.getfield 9, 3) := dk_180 0 9 (dk_at dksX1_mirror_0 5 rfl rfl)
theorem dX1_mirror_8 : decode cX1_mirror 8 = .ok (.aload_n 0, 1) := dk_42 (dk_at dksX1_mirror_0 8 rfl rfl)
theorem dX1_mirror_9 : decode cX1_mirror 9 = .ok (.getfield 15, 3) := dk_180 0 15 (dk_at dksX1_mirror_0 9 rfl rfl)
theorem dX1_mirror_12 : decode cX1_mirror 12 = .ok (.lneg, 1) := dk_117 (dk_at dksX1_mirror_0 12 rfl rfl)
theorem dX1_mirror_13 : decode cX1_mirror 13 = .ok (.aload_n 0, 1) := dk_42 (dk_at dksX1_mirror_0 13 rfl rfl)
theorem dX1_mirror_14 : decode cX1_mirror 14 = .ok (.getfield 18, 3) := dk_180 0 18 (dk_at dksX1_mirror_0 14 rfl rfl)
theorem dX1_mirror_17 : decode cX1_mirror 17 = .ok (.lneg, 1) := dk_117 (dk_at dksX1_mirror_0 17 rfl rfl)
theorem dX1_mirror_18 : decode cX1_mirror 18 = .ok (.aload_n 0, 1) := dk_42 (dk_at dksX1_mirror_0 18 rfl rfl)
theorem dX1_mirror_19 : decode cX1_mirror 19 = .ok (.getfield 21, 3) := dk_180 0 21 (dk_at dksX1_mirror_0 19 rfl rfl)
theorem dX1_mirror_22 : decode cX1_mirror 22 = .ok (.lneg, 1) := dk_117 (dk_at dksX1_mirror_0 22 rfl rfl)
theorem dX1_mirror_23 : decode cX1_mirror 23 = .ok (.invokespecial 42, 3) := dk_183 0 42 (dk_at dksX1_mirror_1 0 rfl rfl)
theorem dX1_mirror_26 : decode cX1_mirror 26 = .ok (.areturn, 1) := dk_176 (dk_at dksX1_mirror_1 3 rfl rfl)
abbrev cX1_near : ByteArray := prog_2_method_10_code
def yX1_near : MethodName := ⟨RX1, "near", "(J)LFourParts$Four;"⟩
def dkwX1_near_6 : List UInt8 := [184, 0, 55, 42, 180, 0, 18, 31, 184, 0, 55, 42, 180, 0, 21, 31, 184, 0, 55, 183, 0, 42, 176]
abbrev dktX1_near_6 : List UInt8 := dkwX1_near_6 ++ []
def dkwX1_near_5 : List UInt8 := [183, 0, 42, 167, 0, 42, 187, 0, 10, 89, 42, 180, 0, 9, 31, 184, 0, 55, 42, 180, 0, 15, 31]
abbrev dktX1_near_5 : List UInt8 := dkwX1_near_5 ++ dktX1_near_6
def dkwX1_near_4 : List UInt8 := [180, 0, 15, 31, 184, 0, 47, 42, 180, 0, 18, 31, 184, 0, 47, 42, 180, 0, 21, 31, 184, 0, 47]
abbrev dktX1_near_4 : List UInt8 := dkwX1_near_4 ++ dktX1_near_5
def dkwX1_near_3 : List UInt8 := [167, 255, 195, 33, 22, 5, 148, 157, 0, 45, 187, 0, 10, 89, 42, 180, 0, 9, 31, 184, 0, 47, 42]
abbrev dktX1_near_3 : List UInt8 := dkwX1_near_3 ++ dktX1_near_4
def dkwX1_near_2 : List UInt8 := [31, 42, 21, 7, 182, 0, 30, 31, 184, 0, 55, 105, 101, 184, 0, 51, 97, 55, 5, 132, 7, 1]
abbrev dktX1_near_2 : List UInt8 := dkwX1_near_2 ++ dktX1_near_3
def dkwX1_near_1 : List UInt8 := [21, 7, 182, 0, 30, 31, 184, 0, 47, 105, 101, 184, 0, 51, 97, 66, 22, 5, 42, 21, 7, 182, 0, 30]
abbrev dktX1_near_1 : List UInt8 := dkwX1_near_1 ++ dktX1_near_2
def dkwX1_near_0 : List UInt8 := [9, 66, 9, 55, 5, 3, 54, 7, 21, 7, 7, 162, 0, 61, 33, 42, 21, 7, 182, 0, 30, 31, 42]
abbrev dktX1_near_0 : List UInt8 := dkwX1_near_0 ++ dktX1_near_1
theorem dksX1_near_0 : cX1_near.data.toList.drop 0 = dktX1_near_0 := by decide +kernel
theorem dksX1_near_1 : cX1_near.data.toList.drop 23 = dktX1_near_1 := dk_seg dksX1_near_0 23 rfl rfl
theorem dksX1_near_2 : cX1_near.data.toList.drop 47 = dktX1_near_2 := dk_seg dksX1_near_1 24 rfl rfl
theorem dksX1_near_3 : cX1_near.data.toList.drop 69 = dktX1_near_3 := dk_seg dksX1_near_2 22 rfl rfl
theorem dksX1_near_4 : cX1_near.data.toList.drop 92 = dktX1_near_4 := dk_seg dksX1_near_3 23 rfl rfl
theorem dksX1_near_5 : cX1_near.data.toList.drop 115 = dktX1_near_5 := dk_seg dksX1_near_4 23 rfl rfl
theorem dksX1_near_6 : cX1_near.data.toList.drop 138 = dktX1_near_6 := dk_seg dksX1_near_5 23 rfl rfl
theorem dX1_near_0 : decode cX1_near 0 = .ok (.lconst 0, 1) := dk_9 (dk_at dksX1_near_0 0 rfl rfl)
theorem dX1_near_1 : decode cX1_near 1 = .ok (.lstore_n 3, 1) := dk_66 (dk_at dksX1_near_0 1 rfl rfl)
theorem dX1_near_2 : decode cX1_near 2 = .ok (.lconst 0, 1) := dk_9 (dk_at dksX1_near_0 2 rfl rfl)
theorem dX1_near_3 : decode cX1_near 3 = .ok (.lstore 5, 2) := dk_55 5 (dk_at dksX1_near_0 3 rfl rfl)
theorem dX1_near_5 : decode cX1_near 5 = .ok (.iconst 0, 1) := dk_3 (dk_at dksX1_near_0 5 rfl rfl)
theorem dX1_near_6 : decode cX1_near 6 = .ok (.istore 7, 2) := dk_54 7 (dk_at dksX1_near_0 6 rfl rfl)
theorem dX1_near_8 : decode cX1_near 8 = .ok (.iload 7, 2) := dk_21 7 (dk_at dksX1_near_0 8 rfl rfl)
theorem dX1_near_10 : decode cX1_near 10 = .ok (.iconst 4, 1) := dk_7 (dk_at dksX1_near_0 10 rfl rfl)
theorem dX1_near_11 : decode cX1_near 11 = .ok (.if_icmp .ge 61, 3) := dk_162 0 61 (dk_at dksX1_near_0 11 rfl rfl)
theorem dX1_near_14 : decode cX1_near 14 = .ok (.lload_n 3, 1) := dk_33 (dk_at dksX1_near_0 14 rfl rfl)
theorem dX1_near_15 : decode cX1_near 15 = .ok (.aload_n 0, 1) := dk_42 (dk_at dksX1_near_0 15 rfl rfl)
theorem dX1_near_16 : decode cX1_near 16 = .ok (.iload 7, 2) := dk_21 7 (dk_at dksX1_near_0 16 rfl rfl)
theorem dX1_near_18 : decode cX1_near 18 = .ok (.invokevirtual 30, 3) := dk_182 0 30 (dk_at dksX1_near_0 18 rfl rfl)
theorem dX1_near_21 : decode cX1_near 21 = .ok (.lload_n 1, 1) := dk_31 (dk_at dksX1_near_0 21 rfl rfl)
theorem dX1_near_22 : decode cX1_near 22 = .ok (.aload_n 0, 1) := dk_42 (dk_at dksX1_near_0 22 rfl rfl)
theorem dX1_near_23 : decode cX1_near 23 = .ok (.iload 7, 2) := dk_21 7 (dk_at dksX1_near_1 0 rfl rfl)
theorem dX1_near_25 : decode cX1_near 25 = .ok (.invokevirtual 30, 3) := dk_182 0 30 (dk_at dksX1_near_1 2 rfl rfl)
theorem dX1_near_28 : decode cX1_near 28 = .ok (.lload_n 1, 1) := dk_31 (dk_at dksX1_near_1 5 rfl rfl)
theorem dX1_near_29 : decode cX1_near 29 = .ok (.invokestatic 47, 3) := dk_184 0 47 (dk_at dksX1_near_1 6 rfl rfl)
theorem dX1_near_32 : decode cX1_near 32 = .ok (.lmul, 1) := dk_105 (dk_at dksX1_near_1 9 rfl rfl)
theorem dX1_near_33 : decode cX1_near 33 = .ok (.lsub, 1) := dk_101 (dk_at dksX1_near_1 10 rfl rfl)
theorem dX1_near_34 : decode cX1_near 34 = .ok (.invokestatic 51, 3) := dk_184 0 51 (dk_at dksX1_near_1 11 rfl rfl)
theorem dX1_near_37 : decode cX1_near 37 = .ok (.ladd, 1) := dk_97 (dk_at dksX1_near_1 14 rfl rfl)
theorem dX1_near_38 : decode cX1_near 38 = .ok (.lstore_n 3, 1) := dk_66 (dk_at dksX1_near_1 15 rfl rfl)
theorem dX1_near_39 : decode cX1_near 39 = .ok (.lload 5, 2) := dk_22 5 (dk_at dksX1_near_1 16 rfl rfl)
theorem dX1_near_41 : decode cX1_near 41 = .ok (.aload_n 0, 1) := dk_42 (dk_at dksX1_near_1 18 rfl rfl)
theorem dX1_near_42 : decode cX1_near 42 = .ok (.iload 7, 2) := dk_21 7 (dk_at dksX1_near_1 19 rfl rfl)
theorem dX1_near_44 : decode cX1_near 44 = .ok (.invokevirtual 30, 3) := dk_182 0 30 (dk_at dksX1_near_1 21 rfl rfl)
theorem dX1_near_47 : decode cX1_near 47 = .ok (.lload_n 1, 1) := dk_31 (dk_at dksX1_near_2 0 rfl rfl)
theorem dX1_near_48 : decode cX1_near 48 = .ok (.aload_n 0, 1) := dk_42 (dk_at dksX1_near_2 1 rfl rfl)
theorem dX1_near_49 : decode cX1_near 49 = .ok (.iload 7, 2) := dk_21 7 (dk_at dksX1_near_2 2 rfl rfl)
theorem dX1_near_51 : decode cX1_near 51 = .ok (.invokevirtual 30, 3) := dk_182 0 30 (dk_at dksX1_near_2 4 rfl rfl)
theorem dX1_near_54 : decode cX1_near 54 = .ok (.lload_n 1, 1) := dk_31 (dk_at dksX1_near_2 7 rfl rfl)
theorem dX1_near_55 : decode cX1_near 55 = .ok (.invokestatic 55, 3) := dk_184 0 55 (dk_at dksX1_near_2 8 rfl rfl)
theorem dX1_near_58 : decode cX1_near 58 = .ok (.lmul, 1) := dk_105 (dk_at dksX1_near_2 11 rfl rfl)
theorem dX1_near_59 : decode cX1_near 59 = .ok (.lsub, 1) := dk_101 (dk_at dksX1_near_2 12 rfl rfl)
theorem dX1_near_60 : decode cX1_near 60 = .ok (.invokestatic 51, 3) := dk_184 0 51 (dk_at dksX1_near_2 13 rfl rfl)
theorem dX1_near_63 : decode cX1_near 63 = .ok (.ladd, 1) := dk_97 (dk_at dksX1_near_2 16 rfl rfl)
theorem dX1_near_64 : decode cX1_near 64 = .ok (.lstore 5, 2) := dk_55 5 (dk_at dksX1_near_2 17 rfl rfl)
theorem dX1_near_66 : decode cX1_near 66 = .ok (.iinc 7 1, 3) := dk_132 7 1 (dk_at dksX1_near_2 19 rfl rfl)
theorem dX1_near_69 : decode cX1_near 69 = .ok (.goto (-61), 3) := dk_167 255 195 (dk_at dksX1_near_3 0 rfl rfl)
theorem dX1_near_72 : decode cX1_near 72 = .ok (.lload_n 3, 1) := dk_33 (dk_at dksX1_near_3 3 rfl rfl)
theorem dX1_near_73 : decode cX1_near 73 = .ok (.lload 5, 2) := dk_22 5 (dk_at dksX1_near_3 4 rfl rfl)
theorem dX1_near_75 : decode cX1_near 75 = .ok (.lcmp, 1) := dk_148 (dk_at dksX1_near_3 6 rfl rfl)
theorem dX1_near_76 : decode cX1_near 76 = .ok (.ifCond .gt 45, 3) := dk_157 0 45 (dk_at dksX1_near_3 7 rfl rfl)
theorem dX1_near_79 : decode cX1_near 79 = .ok (.new 10, 3) := dk_187 0 10 (dk_at dksX1_near_3 10 rfl rfl)
theorem dX1_near_82 : decode cX1_near 82 = .ok (.dup, 1) := dk_89 (dk_at dksX1_near_3 13 rfl rfl)
theorem dX1_near_83 : decode cX1_near 83 = .ok (.aload_n 0, 1) := dk_42 (dk_at dksX1_near_3 14 rfl rfl)
theorem dX1_near_84 : decode cX1_near 84 = .ok (.getfield 9, 3) := dk_180 0 9 (dk_at dksX1_near_3 15 rfl rfl)
theorem dX1_near_87 : decode cX1_near 87 = .ok (.lload_n 1, 1) := dk_31 (dk_at dksX1_near_3 18 rfl rfl)
theorem dX1_near_88 : decode cX1_near 88 = .ok (.invokestatic 47, 3) := dk_184 0 47 (dk_at dksX1_near_3 19 rfl rfl)
theorem dX1_near_91 : decode cX1_near 91 = .ok (.aload_n 0, 1) := dk_42 (dk_at dksX1_near_3 22 rfl rfl)
theorem dX1_near_92 : decode cX1_near 92 = .ok (.getfield 15, 3) := dk_180 0 15 (dk_at dksX1_near_4 0 rfl rfl)
theorem dX1_near_95 : decode cX1_near 95 = .ok (.lload_n 1, 1) := dk_31 (dk_at dksX1_near_4 3 rfl rfl)
theorem dX1_near_96 : decode cX1_near 96 = .ok (.invokestatic 47, 3) := dk_184 0 47 (dk_at dksX1_near_4 4 rfl rfl)
theorem dX1_near_99 : decode cX1_near 99 = .ok (.aload_n 0, 1) := dk_42 (dk_at dksX1_near_4 7 rfl rfl)
theorem dX1_near_100 : decode cX1_near 100 = .ok (.getfield 18, 3) := dk_180 0 18 (dk_at dksX1_near_4 8 rfl rfl)
theorem dX1_near_103 : decode cX1_near 103 = .ok (.lload_n 1, 1) := dk_31 (dk_at dksX1_near_4 11 rfl rfl)
theorem dX1_near_104 : decode cX1_near 104 = .ok (.invokestatic 47, 3) := dk_184 0 47 (dk_at dksX1_near_4 12 rfl rfl)
theorem dX1_near_107 : decode cX1_near 107 = .ok (.aload_n 0, 1) := dk_42 (dk_at dksX1_near_4 15 rfl rfl)
theorem dX1_near_108 : decode cX1_near 108 = .ok (.getfield 21, 3) := dk_180 0 21 (dk_at dksX1_near_4 16 rfl rfl)
theorem dX1_near_111 : decode cX1_near 111 = .ok (.lload_n 1, 1) := dk_31 (dk_at dksX1_near_4 19 rfl rfl)
theorem dX1_near_112 : decode cX1_near 112 = .ok (.invokestatic 47, 3) := dk_184 0 47 (dk_at dksX1_near_4 20 rfl rfl)
theorem dX1_near_115 : decode cX1_near 115 = .ok (.invokespecial 42, 3) := dk_183 0 42 (dk_at dksX1_near_5 0 rfl rfl)
theorem dX1_near_118 : decode cX1_near 118 = .ok (.goto 42, 3) := dk_167 0 42 (dk_at dksX1_near_5 3 rfl rfl)
theorem dX1_near_121 : decode cX1_near 121 = .ok (.new 10, 3) := dk_187 0 10 (dk_at dksX1_near_5 6 rfl rfl)
theorem dX1_near_124 : decode cX1_near 124 = .ok (.dup, 1) := dk_89 (dk_at dksX1_near_5 9 rfl rfl)
theorem dX1_near_125 : decode cX1_near 125 = .ok (.aload_n 0, 1) := dk_42 (dk_at dksX1_near_5 10 rfl rfl)
theorem dX1_near_126 : decode cX1_near 126 = .ok (.getfield 9, 3) := dk_180 0 9 (dk_at dksX1_near_5 11 rfl rfl)
theorem dX1_near_129 : decode cX1_near 129 = .ok (.lload_n 1, 1) := dk_31 (dk_at dksX1_near_5 14 rfl rfl)
theorem dX1_near_130 : decode cX1_near 130 = .ok (.invokestatic 55, 3) := dk_184 0 55 (dk_at dksX1_near_5 15 rfl rfl)
theorem dX1_near_133 : decode cX1_near 133 = .ok (.aload_n 0, 1) := dk_42 (dk_at dksX1_near_5 18 rfl rfl)
theorem dX1_near_134 : decode cX1_near 134 = .ok (.getfield 15, 3) := dk_180 0 15 (dk_at dksX1_near_5 19 rfl rfl)
theorem dX1_near_137 : decode cX1_near 137 = .ok (.lload_n 1, 1) := dk_31 (dk_at dksX1_near_5 22 rfl rfl)
theorem dX1_near_138 : decode cX1_near 138 = .ok (.invokestatic 55, 3) := dk_184 0 55 (dk_at dksX1_near_6 0 rfl rfl)
theorem dX1_near_141 : decode cX1_near 141 = .ok (.aload_n 0, 1) := dk_42 (dk_at dksX1_near_6 3 rfl rfl)
theorem dX1_near_142 : decode cX1_near 142 = .ok (.getfield 18, 3) := dk_180 0 18 (dk_at dksX1_near_6 4 rfl rfl)
theorem dX1_near_145 : decode cX1_near 145 = .ok (.lload_n 1, 1) := dk_31 (dk_at dksX1_near_6 7 rfl rfl)
theorem dX1_near_146 : decode cX1_near 146 = .ok (.invokestatic 55, 3) := dk_184 0 55 (dk_at dksX1_near_6 8 rfl rfl)
theorem dX1_near_149 : decode cX1_near 149 = .ok (.aload_n 0, 1) := dk_42 (dk_at dksX1_near_6 11 rfl rfl)
theorem dX1_near_150 : decode cX1_near 150 = .ok (.getfield 21, 3) := dk_180 0 21 (dk_at dksX1_near_6 12 rfl rfl)
theorem dX1_near_153 : decode cX1_near 153 = .ok (.lload_n 1, 1) := dk_31 (dk_at dksX1_near_6 15 rfl rfl)
theorem dX1_near_154 : decode cX1_near 154 = .ok (.invokestatic 55, 3) := dk_184 0 55 (dk_at dksX1_near_6 16 rfl rfl)
theorem dX1_near_157 : decode cX1_near 157 = .ok (.invokespecial 42, 3) := dk_183 0 42 (dk_at dksX1_near_6 19 rfl rfl)
theorem dX1_near_160 : decode cX1_near 160 = .ok (.areturn, 1) := dk_176 (dk_at dksX1_near_6 22 rfl rfl)
abbrev cX1_even : ByteArray := prog_2_method_12_code
def yX1_even : MethodName := ⟨RX1, "even", "(JJ)J"⟩
def dkwX1_even_0 : List UInt8 := [20, 0, 45, 30, 32, 97, 20, 0, 45, 32, 105, 184, 0, 58, 105, 173]
abbrev dktX1_even_0 : List UInt8 := dkwX1_even_0 ++ []
theorem dksX1_even_0 : cX1_even.data.toList.drop 0 = dktX1_even_0 := by decide +kernel
theorem dX1_even_0 : decode cX1_even 0 = .ok (.ldc2_w 45, 3) := dk_20 0 45 (dk_at dksX1_even_0 0 rfl rfl)
theorem dX1_even_3 : decode cX1_even 3 = .ok (.lload_n 0, 1) := dk_30 (dk_at dksX1_even_0 3 rfl rfl)
theorem dX1_even_4 : decode cX1_even 4 = .ok (.lload_n 2, 1) := dk_32 (dk_at dksX1_even_0 4 rfl rfl)
theorem dX1_even_5 : decode cX1_even 5 = .ok (.ladd, 1) := dk_97 (dk_at dksX1_even_0 5 rfl rfl)
theorem dX1_even_6 : decode cX1_even 6 = .ok (.ldc2_w 45, 3) := dk_20 0 45 (dk_at dksX1_even_0 6 rfl rfl)
theorem dX1_even_9 : decode cX1_even 9 = .ok (.lload_n 2, 1) := dk_32 (dk_at dksX1_even_0 9 rfl rfl)
theorem dX1_even_10 : decode cX1_even 10 = .ok (.lmul, 1) := dk_105 (dk_at dksX1_even_0 10 rfl rfl)
theorem dX1_even_11 : decode cX1_even 11 = .ok (.invokestatic 58, 3) := dk_184 0 58 (dk_at dksX1_even_0 11 rfl rfl)
theorem dX1_even_14 : decode cX1_even 14 = .ok (.lmul, 1) := dk_105 (dk_at dksX1_even_0 14 rfl rfl)
theorem dX1_even_15 : decode cX1_even 15 = .ok (.lreturn, 1) := dk_173 (dk_at dksX1_even_0 15 rfl rfl)
abbrev cX1_squared : ByteArray := prog_2_method_11_code
def yX1_squared : MethodName := ⟨RX1, "squared", "(J)J"⟩
def dkwX1_squared_0 : List UInt8 := [30, 30, 105, 173]
abbrev dktX1_squared_0 : List UInt8 := dkwX1_squared_0 ++ []
theorem dksX1_squared_0 : cX1_squared.data.toList.drop 0 = dktX1_squared_0 := by decide +kernel
theorem dX1_squared_0 : decode cX1_squared 0 = .ok (.lload_n 0, 1) := dk_30 (dk_at dksX1_squared_0 0 rfl rfl)
theorem dX1_squared_1 : decode cX1_squared 1 = .ok (.lload_n 0, 1) := dk_30 (dk_at dksX1_squared_0 1 rfl rfl)
theorem dX1_squared_2 : decode cX1_squared 2 = .ok (.lmul, 1) := dk_105 (dk_at dksX1_squared_0 2 rfl rfl)
theorem dX1_squared_3 : decode cX1_squared 3 = .ok (.lreturn, 1) := dk_173 (dk_at dksX1_squared_0 3 rfl rfl)
abbrev cX1_odd : ByteArray := prog_2_method_13_code
def yX1_odd : MethodName := ⟨RX1, "odd", "(JJ)J"⟩
def dkwX1_odd_0 : List UInt8 := [20, 0, 45, 30, 20, 0, 45, 32, 105, 184, 0, 58, 105, 10, 97, 173]
abbrev dktX1_odd_0 : List UInt8 := dkwX1_odd_0 ++ []
theorem dksX1_odd_0 : cX1_odd.data.toList.drop 0 = dktX1_odd_0 := by decide +kernel
theorem dX1_odd_0 : decode cX1_odd 0 = .ok (.ldc2_w 45, 3) := dk_20 0 45 (dk_at dksX1_odd_0 0 rfl rfl)
theorem dX1_odd_3 : decode cX1_odd 3 = .ok (.lload_n 0, 1) := dk_30 (dk_at dksX1_odd_0 3 rfl rfl)
theorem dX1_odd_4 : decode cX1_odd 4 = .ok (.ldc2_w 45, 3) := dk_20 0 45 (dk_at dksX1_odd_0 4 rfl rfl)
theorem dX1_odd_7 : decode cX1_odd 7 = .ok (.lload_n 2, 1) := dk_32 (dk_at dksX1_odd_0 7 rfl rfl)
theorem dX1_odd_8 : decode cX1_odd 8 = .ok (.lmul, 1) := dk_105 (dk_at dksX1_odd_0 8 rfl rfl)
theorem dX1_odd_9 : decode cX1_odd 9 = .ok (.invokestatic 58, 3) := dk_184 0 58 (dk_at dksX1_odd_0 9 rfl rfl)
theorem dX1_odd_12 : decode cX1_odd 12 = .ok (.lmul, 1) := dk_105 (dk_at dksX1_odd_0 12 rfl rfl)
theorem dX1_odd_13 : decode cX1_odd 13 = .ok (.lconst 1, 1) := dk_10 (dk_at dksX1_odd_0 13 rfl rfl)
theorem dX1_odd_14 : decode cX1_odd 14 = .ok (.ladd, 1) := dk_97 (dk_at dksX1_odd_0 14 rfl rfl)
theorem dX1_odd_15 : decode cX1_odd 15 = .ok (.lreturn, 1) := dk_173 (dk_at dksX1_odd_0 15 rfl rfl)
abbrev cX1_isGreater : ByteArray := prog_2_method_9_code
def yX1_isGreater : MethodName := ⟨RX1, "isGreater", "(LFourParts$Four;)Z"⟩
def dkwX1_isGreater_4 : List UInt8 := [42, 180, 0, 21, 43, 180, 0, 21, 148, 158, 0, 7, 4, 167, 0, 4, 3, 172]
abbrev dktX1_isGreater_4 : List UInt8 := dkwX1_isGreater_4 ++ []
def dkwX1_isGreater_3 : List UInt8 := [148, 153, 0, 23, 42, 180, 0, 18, 43, 180, 0, 18, 148, 158, 0, 7, 4, 167, 0, 24, 3, 167, 0, 20]
abbrev dktX1_isGreater_3 : List UInt8 := dkwX1_isGreater_3 ++ dktX1_isGreater_4
def dkwX1_isGreater_2 : List UInt8 := [43, 180, 0, 15, 148, 158, 0, 7, 4, 167, 0, 56, 3, 167, 0, 52, 42, 180, 0, 18, 43, 180, 0, 18]
abbrev dktX1_isGreater_2 : List UInt8 := dkwX1_isGreater_2 ++ dktX1_isGreater_3
def dkwX1_isGreater_1 : List UInt8 := [4, 167, 0, 88, 3, 167, 0, 84, 42, 180, 0, 15, 43, 180, 0, 15, 148, 153, 0, 23, 42, 180, 0, 15]
abbrev dktX1_isGreater_1 : List UInt8 := dkwX1_isGreater_1 ++ dktX1_isGreater_2
def dkwX1_isGreater_0 : List UInt8 := [42, 180, 0, 9, 43, 180, 0, 9, 148, 153, 0, 23, 42, 180, 0, 9, 43, 180, 0, 9, 148, 158, 0, 7]
abbrev dktX1_isGreater_0 : List UInt8 := dkwX1_isGreater_0 ++ dktX1_isGreater_1
theorem dksX1_isGreater_0 : cX1_isGreater.data.toList.drop 0 = dktX1_isGreater_0 := by decide +kernel
theorem dksX1_isGreater_1 : cX1_isGreater.data.toList.drop 24 = dktX1_isGreater_1 := dk_seg dksX1_isGreater_0 24 rfl rfl
theorem dksX1_isGreater_2 : cX1_isGreater.data.toList.drop 48 = dktX1_isGreater_2 := dk_seg dksX1_isGreater_1 24 rfl rfl
theorem dksX1_isGreater_3 : cX1_isGreater.data.toList.drop 72 = dktX1_isGreater_3 := dk_seg dksX1_isGreater_2 24 rfl rfl
theorem dksX1_isGreater_4 : cX1_isGreater.data.toList.drop 96 = dktX1_isGreater_4 := dk_seg dksX1_isGreater_3 24 rfl rfl
theorem dX1_isGreater_0 : decode cX1_isGreater 0 = .ok (.aload_n 0, 1) := dk_42 (dk_at dksX1_isGreater_0 0 rfl rfl)
theorem dX1_isGreater_1 : decode cX1_isGreater 1 = .ok (.getfield 9, 3) := dk_180 0 9 (dk_at dksX1_isGreater_0 1 rfl rfl)
theorem dX1_isGreater_4 : decode cX1_isGreater 4 = .ok (.aload_n 1, 1) := dk_43 (dk_at dksX1_isGreater_0 4 rfl rfl)
theorem dX1_isGreater_5 : decode cX1_isGreater 5 = .ok (.getfield 9, 3) := dk_180 0 9 (dk_at dksX1_isGreater_0 5 rfl rfl)
theorem dX1_isGreater_8 : decode cX1_isGreater 8 = .ok (.lcmp, 1) := dk_148 (dk_at dksX1_isGreater_0 8 rfl rfl)
theorem dX1_isGreater_9 : decode cX1_isGreater 9 = .ok (.ifCond .eq 23, 3) := dk_153 0 23 (dk_at dksX1_isGreater_0 9 rfl rfl)
theorem dX1_isGreater_12 : decode cX1_isGreater 12 = .ok (.aload_n 0, 1) := dk_42 (dk_at dksX1_isGreater_0 12 rfl rfl)
theorem dX1_isGreater_13 : decode cX1_isGreater 13 = .ok (.getfield 9, 3) := dk_180 0 9 (dk_at dksX1_isGreater_0 13 rfl rfl)
theorem dX1_isGreater_16 : decode cX1_isGreater 16 = .ok (.aload_n 1, 1) := dk_43 (dk_at dksX1_isGreater_0 16 rfl rfl)
theorem dX1_isGreater_17 : decode cX1_isGreater 17 = .ok (.getfield 9, 3) := dk_180 0 9 (dk_at dksX1_isGreater_0 17 rfl rfl)
theorem dX1_isGreater_20 : decode cX1_isGreater 20 = .ok (.lcmp, 1) := dk_148 (dk_at dksX1_isGreater_0 20 rfl rfl)
theorem dX1_isGreater_21 : decode cX1_isGreater 21 = .ok (.ifCond .le 7, 3) := dk_158 0 7 (dk_at dksX1_isGreater_0 21 rfl rfl)
theorem dX1_isGreater_24 : decode cX1_isGreater 24 = .ok (.iconst 1, 1) := dk_4 (dk_at dksX1_isGreater_1 0 rfl rfl)
theorem dX1_isGreater_25 : decode cX1_isGreater 25 = .ok (.goto 88, 3) := dk_167 0 88 (dk_at dksX1_isGreater_1 1 rfl rfl)
theorem dX1_isGreater_28 : decode cX1_isGreater 28 = .ok (.iconst 0, 1) := dk_3 (dk_at dksX1_isGreater_1 4 rfl rfl)
theorem dX1_isGreater_29 : decode cX1_isGreater 29 = .ok (.goto 84, 3) := dk_167 0 84 (dk_at dksX1_isGreater_1 5 rfl rfl)
theorem dX1_isGreater_32 : decode cX1_isGreater 32 = .ok (.aload_n 0, 1) := dk_42 (dk_at dksX1_isGreater_1 8 rfl rfl)
theorem dX1_isGreater_33 : decode cX1_isGreater 33 = .ok (.getfield 15, 3) := dk_180 0 15 (dk_at dksX1_isGreater_1 9 rfl rfl)
theorem dX1_isGreater_36 : decode cX1_isGreater 36 = .ok (.aload_n 1, 1) := dk_43 (dk_at dksX1_isGreater_1 12 rfl rfl)
theorem dX1_isGreater_37 : decode cX1_isGreater 37 = .ok (.getfield 15, 3) := dk_180 0 15 (dk_at dksX1_isGreater_1 13 rfl rfl)
theorem dX1_isGreater_40 : decode cX1_isGreater 40 = .ok (.lcmp, 1) := dk_148 (dk_at dksX1_isGreater_1 16 rfl rfl)
theorem dX1_isGreater_41 : decode cX1_isGreater 41 = .ok (.ifCond .eq 23, 3) := dk_153 0 23 (dk_at dksX1_isGreater_1 17 rfl rfl)
theorem dX1_isGreater_44 : decode cX1_isGreater 44 = .ok (.aload_n 0, 1) := dk_42 (dk_at dksX1_isGreater_1 20 rfl rfl)
theorem dX1_isGreater_45 : decode cX1_isGreater 45 = .ok (.getfield 15, 3) := dk_180 0 15 (dk_at dksX1_isGreater_1 21 rfl rfl)
theorem dX1_isGreater_48 : decode cX1_isGreater 48 = .ok (.aload_n 1, 1) := dk_43 (dk_at dksX1_isGreater_2 0 rfl rfl)
theorem dX1_isGreater_49 : decode cX1_isGreater 49 = .ok (.getfield 15, 3) := dk_180 0 15 (dk_at dksX1_isGreater_2 1 rfl rfl)
theorem dX1_isGreater_52 : decode cX1_isGreater 52 = .ok (.lcmp, 1) := dk_148 (dk_at dksX1_isGreater_2 4 rfl rfl)
theorem dX1_isGreater_53 : decode cX1_isGreater 53 = .ok (.ifCond .le 7, 3) := dk_158 0 7 (dk_at dksX1_isGreater_2 5 rfl rfl)
theorem dX1_isGreater_56 : decode cX1_isGreater 56 = .ok (.iconst 1, 1) := dk_4 (dk_at dksX1_isGreater_2 8 rfl rfl)
theorem dX1_isGreater_57 : decode cX1_isGreater 57 = .ok (.goto 56, 3) := dk_167 0 56 (dk_at dksX1_isGreater_2 9 rfl rfl)
theorem dX1_isGreater_60 : decode cX1_isGreater 60 = .ok (.iconst 0, 1) := dk_3 (dk_at dksX1_isGreater_2 12 rfl rfl)
theorem dX1_isGreater_61 : decode cX1_isGreater 61 = .ok (.goto 52, 3) := dk_167 0 52 (dk_at dksX1_isGreater_2 13 rfl rfl)
theorem dX1_isGreater_64 : decode cX1_isGreater 64 = .ok (.aload_n 0, 1) := dk_42 (dk_at dksX1_isGreater_2 16 rfl rfl)
theorem dX1_isGreater_65 : decode cX1_isGreater 65 = .ok (.getfield 18, 3) := dk_180 0 18 (dk_at dksX1_isGreater_2 17 rfl rfl)
theorem dX1_isGreater_68 : decode cX1_isGreater 68 = .ok (.aload_n 1, 1) := dk_43 (dk_at dksX1_isGreater_2 20 rfl rfl)
theorem dX1_isGreater_69 : decode cX1_isGreater 69 = .ok (.getfield 18, 3) := dk_180 0 18 (dk_at dksX1_isGreater_2 21 rfl rfl)
theorem dX1_isGreater_72 : decode cX1_isGreater 72 = .ok (.lcmp, 1) := dk_148 (dk_at dksX1_isGreater_3 0 rfl rfl)
theorem dX1_isGreater_73 : decode cX1_isGreater 73 = .ok (.ifCond .eq 23, 3) := dk_153 0 23 (dk_at dksX1_isGreater_3 1 rfl rfl)
theorem dX1_isGreater_76 : decode cX1_isGreater 76 = .ok (.aload_n 0, 1) := dk_42 (dk_at dksX1_isGreater_3 4 rfl rfl)
theorem dX1_isGreater_77 : decode cX1_isGreater 77 = .ok (.getfield 18, 3) := dk_180 0 18 (dk_at dksX1_isGreater_3 5 rfl rfl)
theorem dX1_isGreater_80 : decode cX1_isGreater 80 = .ok (.aload_n 1, 1) := dk_43 (dk_at dksX1_isGreater_3 8 rfl rfl)
theorem dX1_isGreater_81 : decode cX1_isGreater 81 = .ok (.getfield 18, 3) := dk_180 0 18 (dk_at dksX1_isGreater_3 9 rfl rfl)
theorem dX1_isGreater_84 : decode cX1_isGreater 84 = .ok (.lcmp, 1) := dk_148 (dk_at dksX1_isGreater_3 12 rfl rfl)
theorem dX1_isGreater_85 : decode cX1_isGreater 85 = .ok (.ifCond .le 7, 3) := dk_158 0 7 (dk_at dksX1_isGreater_3 13 rfl rfl)
theorem dX1_isGreater_88 : decode cX1_isGreater 88 = .ok (.iconst 1, 1) := dk_4 (dk_at dksX1_isGreater_3 16 rfl rfl)
theorem dX1_isGreater_89 : decode cX1_isGreater 89 = .ok (.goto 24, 3) := dk_167 0 24 (dk_at dksX1_isGreater_3 17 rfl rfl)
theorem dX1_isGreater_92 : decode cX1_isGreater 92 = .ok (.iconst 0, 1) := dk_3 (dk_at dksX1_isGreater_3 20 rfl rfl)
theorem dX1_isGreater_93 : decode cX1_isGreater 93 = .ok (.goto 20, 3) := dk_167 0 20 (dk_at dksX1_isGreater_3 21 rfl rfl)
theorem dX1_isGreater_96 : decode cX1_isGreater 96 = .ok (.aload_n 0, 1) := dk_42 (dk_at dksX1_isGreater_4 0 rfl rfl)
theorem dX1_isGreater_97 : decode cX1_isGreater 97 = .ok (.getfield 21, 3) := dk_180 0 21 (dk_at dksX1_isGreater_4 1 rfl rfl)
theorem dX1_isGreater_100 : decode cX1_isGreater 100 = .ok (.aload_n 1, 1) := dk_43 (dk_at dksX1_isGreater_4 4 rfl rfl)
theorem dX1_isGreater_101 : decode cX1_isGreater 101 = .ok (.getfield 21, 3) := dk_180 0 21 (dk_at dksX1_isGreater_4 5 rfl rfl)
theorem dX1_isGreater_104 : decode cX1_isGreater 104 = .ok (.lcmp, 1) := dk_148 (dk_at dksX1_isGreater_4 8 rfl rfl)
theorem dX1_isGreater_105 : decode cX1_isGreater 105 = .ok (.ifCond .le 7, 3) := dk_158 0 7 (dk_at dksX1_isGreater_4 9 rfl rfl)
theorem dX1_isGreater_108 : decode cX1_isGreater 108 = .ok (.iconst 1, 1) := dk_4 (dk_at dksX1_isGreater_4 12 rfl rfl)
theorem dX1_isGreater_109 : decode cX1_isGreater 109 = .ok (.goto 4, 3) := dk_167 0 4 (dk_at dksX1_isGreater_4 13 rfl rfl)
theorem dX1_isGreater_112 : decode cX1_isGreater 112 = .ok (.iconst 0, 1) := dk_3 (dk_at dksX1_isGreater_4 16 rfl rfl)
theorem dX1_isGreater_113 : decode cX1_isGreater 113 = .ok (.ireturn, 1) := dk_172 (dk_at dksX1_isGreater_4 17 rfl rfl)
theorem q20 : (Jvm.Cond.initialized "FourParts$Four") ∈ lw_all := lw_g (lw_at lw_m1 2 rfl) rfl
theorem q228 : (Jvm.Cond.instantiable "FourParts$Four" (4 : Nat)) ∈ lw_all := lw_g (lw_at lw_m1 210 rfl) rfl
theorem q230 : (Jvm.Cond.instanceMethod ({ cls := "FourParts$Four", name := "<init>", desc := "(JJJJ)V" } : Jvm.MethodName)) ∈ lw_all := lw_g (lw_at lw_m1 212 rfl) rfl
theorem q231 : (Jvm.Cond.code ({ cls := "FourParts$Four", name := "<init>", desc := "(JJJJ)V" } : Jvm.MethodName) prog_2_method_1_code (9 : Nat) (Option.none : Option Jvm.ClassFile.FieldType)) ∈ lw_all := lw_g (lw_at lw_m1 213 rfl) rfl
theorem q232 : (Jvm.Cond.methodLink "FourParts$Four" (3 : Nat) ({ cls := "java/lang/Object", name := "<init>", desc := "()V" } : Jvm.MethodName)) ∈ lw_all := lw_g (lw_at lw_m1 214 rfl) rfl
theorem q233 : (Jvm.Cond.fieldLink "FourParts$Four" (9 : Nat) "FourParts$Four" "a" "J") ∈ lw_all := lw_g (lw_at lw_m1 215 rfl) rfl
theorem q235 : (Jvm.Cond.fieldLink "FourParts$Four" (15 : Nat) "FourParts$Four" "b" "J") ∈ lw_all := lw_g (lw_at lw_m1 217 rfl) rfl
theorem q237 : (Jvm.Cond.fieldLink "FourParts$Four" (18 : Nat) "FourParts$Four" "c" "J") ∈ lw_all := lw_g (lw_at lw_m1 219 rfl) rfl
theorem q239 : (Jvm.Cond.fieldLink "FourParts$Four" (21 : Nat) "FourParts$Four" "d" "J") ∈ lw_all := lw_g (lw_at lw_m1 221 rfl) rfl
theorem q241 : (Jvm.Cond.laysFinal "FourParts$Four" "FourParts$Four" "a" "J") ∈ lw_all := lw_g (lw_at lw_m1 223 rfl) rfl
theorem q242 : (Jvm.Cond.soleField "FourParts$Four" "a") ∈ lw_all := lw_g (lw_at lw_m1 224 rfl) rfl
theorem q243 : (Jvm.Cond.laysFinal "FourParts$Four" "FourParts$Four" "b" "J") ∈ lw_all := lw_g (lw_at lw_m1 225 rfl) rfl
theorem q244 : (Jvm.Cond.soleField "FourParts$Four" "b") ∈ lw_all := lw_g (lw_at lw_m1 226 rfl) rfl
theorem q245 : (Jvm.Cond.laysFinal "FourParts$Four" "FourParts$Four" "c" "J") ∈ lw_all := lw_g (lw_at lw_m1 227 rfl) rfl
theorem q246 : (Jvm.Cond.soleField "FourParts$Four" "c") ∈ lw_all := lw_g (lw_at lw_m1 228 rfl) rfl
theorem q247 : (Jvm.Cond.laysFinal "FourParts$Four" "FourParts$Four" "d" "J") ∈ lw_all := lw_g (lw_at lw_m1 229 rfl) rfl
theorem q248 : (Jvm.Cond.soleField "FourParts$Four" "d") ∈ lw_all := lw_g (lw_at lw_m1 230 rfl) rfl
theorem q249 : (Jvm.Cond.superclass "FourParts$Four" "java/lang/Object") ∈ lw_all := lw_g (lw_at lw_m1 231 rfl) rfl
theorem q251 : (Jvm.Cond.unhidden "FourParts$Four" "square" "()J") ∈ lw_tbl := lw_at lw_m1 233 rfl
theorem q259 : (Jvm.Cond.castable "FourParts$Four" "FourParts$Parts") ∈ lw_tbl := lw_at lw_m2 1 rfl
theorem q260 : (Jvm.Cond.selects "FourParts$Four" ({ cls := "FourParts$Parts", name := "part", desc := "(I)J" } : Jvm.MethodName) ({ cls := "FourParts$Four", name := "part", desc := "(I)J" } : Jvm.MethodName)) ∈ lw_all := lw_g (lw_at lw_m2 2 rfl) rfl
theorem q261 : (Jvm.Cond.unhidden "FourParts$Four" "part" "(I)J") ∈ lw_tbl := lw_at lw_m2 3 rfl
theorem q262 : (Jvm.Cond.instanceMethod ({ cls := "FourParts$Four", name := "part", desc := "(I)J" } : Jvm.MethodName)) ∈ lw_all := lw_g (lw_at lw_m2 4 rfl) rfl
theorem q263 : (Jvm.Cond.publicMethod ({ cls := "FourParts$Four", name := "part", desc := "(I)J" } : Jvm.MethodName)) ∈ lw_tbl := lw_at lw_m2 5 rfl
theorem q264 : (Jvm.Cond.code ({ cls := "FourParts$Four", name := "part", desc := "(I)J" } : Jvm.MethodName) prog_2_method_2_code (2 : Nat) (Option.some Jvm.ClassFile.FieldType.long)) ∈ lw_all := lw_g (lw_at lw_m2 6 rfl) rfl
theorem q325 : (Jvm.Cond.instanceMethod ({ cls := "FourParts$Four", name := "fits", desc := "()Z" } : Jvm.MethodName)) ∈ lw_all := lw_g (lw_at lw_m2 67 rfl) rfl
theorem q326 : (Jvm.Cond.selects "FourParts$Four" ({ cls := "FourParts$Four", name := "fits", desc := "()Z" } : Jvm.MethodName) ({ cls := "FourParts$Four", name := "fits", desc := "()Z" } : Jvm.MethodName)) ∈ lw_all := lw_g (lw_at lw_m2 68 rfl) rfl
theorem q327 : (Jvm.Cond.code ({ cls := "FourParts$Four", name := "fits", desc := "()Z" } : Jvm.MethodName) prog_2_method_4_code (3 : Nat) (Option.some Jvm.ClassFile.FieldType.boolean)) ∈ lw_all := lw_g (lw_at lw_m2 69 rfl) rfl
theorem q328 : (Jvm.Cond.methodLink "FourParts$Four" (30 : Nat) ({ cls := "FourParts$Four", name := "part", desc := "(I)J" } : Jvm.MethodName)) ∈ lw_all := lw_g (lw_at lw_m2 70 rfl) rfl
theorem q329 : (Jvm.Cond.constantLong "FourParts$Four" (34 : Nat) (-20000 : Int64)) ∈ lw_all := lw_g (lw_at lw_m2 71 rfl) rfl
theorem q330 : (Jvm.Cond.constantLong "FourParts$Four" (36 : Nat) (20000 : Int64)) ∈ lw_all := lw_g (lw_at lw_m2 72 rfl) rfl
theorem q331 : (Jvm.Cond.methodLinkNest "FourParts$Four" (38 : Nat) ({ cls := "FourParts", name := "isIn", desc := "(JJJ)Z" } : Jvm.MethodName) "FourParts") ∈ lw_tbl := lw_at lw_m2 73 rfl
theorem q351 : (Jvm.Cond.instanceMethod ({ cls := "FourParts$Four", name := "norm", desc := "()J" } : Jvm.MethodName)) ∈ lw_all := lw_g (lw_at lw_m2 93 rfl) rfl
theorem q352 : (Jvm.Cond.selects "FourParts$Four" ({ cls := "FourParts$Four", name := "norm", desc := "()J" } : Jvm.MethodName) ({ cls := "FourParts$Four", name := "norm", desc := "()J" } : Jvm.MethodName)) ∈ lw_all := lw_g (lw_at lw_m2 94 rfl) rfl
theorem q353 : (Jvm.Cond.code ({ cls := "FourParts$Four", name := "norm", desc := "()J" } : Jvm.MethodName) prog_2_method_3_code (1 : Nat) (Option.some Jvm.ClassFile.FieldType.long)) ∈ lw_all := lw_g (lw_at lw_m2 95 rfl) rfl
theorem q354 : (Jvm.Cond.constantLong "FourParts$Four" (28 : Nat) (4 : Int64)) ∈ lw_all := lw_g (lw_at lw_m2 96 rfl) rfl
theorem q356 : (Jvm.Cond.instanceMethod ({ cls := "FourParts$Four", name := "isPrimitive", desc := "()Z" } : Jvm.MethodName)) ∈ lw_all := lw_g (lw_at lw_m2 98 rfl) rfl
theorem q357 : (Jvm.Cond.selects "FourParts$Four" ({ cls := "FourParts$Four", name := "isPrimitive", desc := "()Z" } : Jvm.MethodName) ({ cls := "FourParts$Four", name := "isPrimitive", desc := "()Z" } : Jvm.MethodName)) ∈ lw_all := lw_g (lw_at lw_m2 99 rfl) rfl
theorem q358 : (Jvm.Cond.code ({ cls := "FourParts$Four", name := "isPrimitive", desc := "()Z" } : Jvm.MethodName) prog_2_method_14_code (1 : Nat) (Option.some Jvm.ClassFile.FieldType.boolean)) ∈ lw_all := lw_g (lw_at lw_m2 100 rfl) rfl
theorem q360 : (Jvm.Cond.unhidden "FourParts$Four" "isNought" "()Z") ∈ lw_tbl := lw_at lw_m2 102 rfl
theorem q367 : (Jvm.Cond.methodLink "FourParts$Four" (67 : Nat) ({ cls := "FourParts$Four", name := "norm", desc := "()J" } : Jvm.MethodName)) ∈ lw_all := lw_g (lw_at lw_m2 109 rfl) rfl
theorem q368 : (Jvm.Cond.methodLink "FourParts$Four" (70 : Nat) ({ cls := "FourParts$Four", name := "isAlone", desc := "(JJJJJ)Z" } : Jvm.MethodName)) ∈ lw_all := lw_g (lw_at lw_m2 110 rfl) rfl
theorem q369 : (Jvm.Cond.static ({ cls := "FourParts$Four", name := "isAlone", desc := "(JJJJJ)Z" } : Jvm.MethodName)) ∈ lw_all := lw_g (lw_at lw_m2 111 rfl) rfl
theorem q370 : (Jvm.Cond.code ({ cls := "FourParts$Four", name := "isAlone", desc := "(JJJJJ)Z" } : Jvm.MethodName) prog_2_method_15_code (16 : Nat) (Option.some Jvm.ClassFile.FieldType.boolean)) ∈ lw_all := lw_g (lw_at lw_m2 112 rfl) rfl
theorem q371 : (Jvm.Cond.constantLong "FourParts$Four" (45 : Nat) (2 : Int64)) ∈ lw_all := lw_g (lw_at lw_m2 113 rfl) rfl
theorem q377 : (Jvm.Cond.instanceMethod ({ cls := "FourParts$Four", name := "isOne", desc := "(LFourParts$Four;)Z" } : Jvm.MethodName)) ∈ lw_all := lw_g (lw_at lw_m2 119 rfl) rfl
theorem q378 : (Jvm.Cond.selects "FourParts$Four" ({ cls := "FourParts$Four", name := "isOne", desc := "(LFourParts$Four;)Z" } : Jvm.MethodName) ({ cls := "FourParts$Four", name := "isOne", desc := "(LFourParts$Four;)Z" } : Jvm.MethodName)) ∈ lw_all := lw_g (lw_at lw_m2 120 rfl) rfl
theorem q379 : (Jvm.Cond.code ({ cls := "FourParts$Four", name := "isOne", desc := "(LFourParts$Four;)Z" } : Jvm.MethodName) prog_2_method_8_code (2 : Nat) (Option.some Jvm.ClassFile.FieldType.boolean)) ∈ lw_all := lw_g (lw_at lw_m2 121 rfl) rfl
theorem q386 : (Jvm.Cond.instanceMethod ({ cls := "FourParts$Four", name := "plus", desc := "(LFourParts$Four;J)LFourParts$Four;" } : Jvm.MethodName)) ∈ lw_all := lw_g (lw_at lw_m2 128 rfl) rfl
theorem q387 : (Jvm.Cond.selects "FourParts$Four" ({ cls := "FourParts$Four", name := "plus", desc := "(LFourParts$Four;J)LFourParts$Four;" } : Jvm.MethodName) ({ cls := "FourParts$Four", name := "plus", desc := "(LFourParts$Four;J)LFourParts$Four;" } : Jvm.MethodName)) ∈ lw_all := lw_g (lw_at lw_m2 129 rfl) rfl
theorem q388 : (Jvm.Cond.code ({ cls := "FourParts$Four", name := "plus", desc := "(LFourParts$Four;J)LFourParts$Four;" } : Jvm.MethodName) prog_2_method_5_code (4 : Nat) (Option.some (Jvm.ClassFile.FieldType.object "FourParts$Four"))) ∈ lw_all := lw_g (lw_at lw_m2 130 rfl) rfl
theorem q389 : (Jvm.Cond.classLink "FourParts$Four" (10 : Nat) "FourParts$Four") ∈ lw_all := lw_g (lw_at lw_m2 131 rfl) rfl
theorem q390 : (Jvm.Cond.methodLink "FourParts$Four" (42 : Nat) ({ cls := "FourParts$Four", name := "<init>", desc := "(JJJJ)V" } : Jvm.MethodName)) ∈ lw_all := lw_g (lw_at lw_m2 132 rfl) rfl
theorem q392 : (Jvm.Cond.instanceMethod ({ cls := "FourParts$Four", name := "times", desc := "(LFourParts$Four;)LFourParts$Four;" } : Jvm.MethodName)) ∈ lw_all := lw_g (lw_at lw_m2 134 rfl) rfl
theorem q393 : (Jvm.Cond.selects "FourParts$Four" ({ cls := "FourParts$Four", name := "times", desc := "(LFourParts$Four;)LFourParts$Four;" } : Jvm.MethodName) ({ cls := "FourParts$Four", name := "times", desc := "(LFourParts$Four;)LFourParts$Four;" } : Jvm.MethodName)) ∈ lw_all := lw_g (lw_at lw_m2 135 rfl) rfl
theorem q394 : (Jvm.Cond.code ({ cls := "FourParts$Four", name := "times", desc := "(LFourParts$Four;)LFourParts$Four;" } : Jvm.MethodName) prog_2_method_7_code (2 : Nat) (Option.some (Jvm.ClassFile.FieldType.object "FourParts$Four"))) ∈ lw_all := lw_g (lw_at lw_m2 136 rfl) rfl
theorem q396 : (Jvm.Cond.instanceMethod ({ cls := "FourParts$Four", name := "mirror", desc := "()LFourParts$Four;" } : Jvm.MethodName)) ∈ lw_all := lw_g (lw_at lw_m2 138 rfl) rfl
theorem q397 : (Jvm.Cond.selects "FourParts$Four" ({ cls := "FourParts$Four", name := "mirror", desc := "()LFourParts$Four;" } : Jvm.MethodName) ({ cls := "FourParts$Four", name := "mirror", desc := "()LFourParts$Four;" } : Jvm.MethodName)) ∈ lw_all := lw_g (lw_at lw_m2 139 rfl) rfl
theorem q398 : (Jvm.Cond.code ({ cls := "FourParts$Four", name := "mirror", desc := "()LFourParts$Four;" } : Jvm.MethodName) prog_2_method_6_code (1 : Nat) (Option.some (Jvm.ClassFile.FieldType.object "FourParts$Four"))) ∈ lw_all := lw_g (lw_at lw_m2 140 rfl) rfl
theorem q432 : (Jvm.Cond.instanceMethod ({ cls := "FourParts$Four", name := "near", desc := "(J)LFourParts$Four;" } : Jvm.MethodName)) ∈ lw_all := lw_g (lw_at lw_m2 174 rfl) rfl
theorem q433 : (Jvm.Cond.selects "FourParts$Four" ({ cls := "FourParts$Four", name := "near", desc := "(J)LFourParts$Four;" } : Jvm.MethodName) ({ cls := "FourParts$Four", name := "near", desc := "(J)LFourParts$Four;" } : Jvm.MethodName)) ∈ lw_all := lw_g (lw_at lw_m2 175 rfl) rfl
theorem q434 : (Jvm.Cond.code ({ cls := "FourParts$Four", name := "near", desc := "(J)LFourParts$Four;" } : Jvm.MethodName) prog_2_method_10_code (8 : Nat) (Option.some (Jvm.ClassFile.FieldType.object "FourParts$Four"))) ∈ lw_all := lw_g (lw_at lw_m2 176 rfl) rfl
theorem q435 : (Jvm.Cond.methodLink "FourParts$Four" (47 : Nat) ({ cls := "FourParts$Four", name := "even", desc := "(JJ)J" } : Jvm.MethodName)) ∈ lw_all := lw_g (lw_at lw_m2 177 rfl) rfl
theorem q436 : (Jvm.Cond.static ({ cls := "FourParts$Four", name := "even", desc := "(JJ)J" } : Jvm.MethodName)) ∈ lw_all := lw_g (lw_at lw_m2 178 rfl) rfl
theorem q437 : (Jvm.Cond.code ({ cls := "FourParts$Four", name := "even", desc := "(JJ)J" } : Jvm.MethodName) prog_2_method_12_code (4 : Nat) (Option.some Jvm.ClassFile.FieldType.long)) ∈ lw_all := lw_g (lw_at lw_m2 179 rfl) rfl
theorem q438 : (Jvm.Cond.methodLink "FourParts$Four" (58 : Nat) ({ cls := "java/lang/Math", name := "floorDiv", desc := "(JJ)J" } : Jvm.MethodName)) ∈ lw_all := lw_g (lw_at lw_m2 180 rfl) rfl
theorem q441 : (Jvm.Cond.methodLink "FourParts$Four" (51 : Nat) ({ cls := "FourParts$Four", name := "squared", desc := "(J)J" } : Jvm.MethodName)) ∈ lw_all := lw_g (lw_at lw_m2 183 rfl) rfl
theorem q442 : (Jvm.Cond.static ({ cls := "FourParts$Four", name := "squared", desc := "(J)J" } : Jvm.MethodName)) ∈ lw_all := lw_g (lw_at lw_m2 184 rfl) rfl
theorem q443 : (Jvm.Cond.code ({ cls := "FourParts$Four", name := "squared", desc := "(J)J" } : Jvm.MethodName) prog_2_method_11_code (2 : Nat) (Option.some Jvm.ClassFile.FieldType.long)) ∈ lw_all := lw_g (lw_at lw_m2 185 rfl) rfl
theorem q444 : (Jvm.Cond.methodLink "FourParts$Four" (55 : Nat) ({ cls := "FourParts$Four", name := "odd", desc := "(JJ)J" } : Jvm.MethodName)) ∈ lw_all := lw_g (lw_at lw_m2 186 rfl) rfl
theorem q445 : (Jvm.Cond.static ({ cls := "FourParts$Four", name := "odd", desc := "(JJ)J" } : Jvm.MethodName)) ∈ lw_all := lw_g (lw_at lw_m2 187 rfl) rfl
theorem q446 : (Jvm.Cond.code ({ cls := "FourParts$Four", name := "odd", desc := "(JJ)J" } : Jvm.MethodName) prog_2_method_13_code (4 : Nat) (Option.some Jvm.ClassFile.FieldType.long)) ∈ lw_all := lw_g (lw_at lw_m2 188 rfl) rfl
theorem q474 : (Jvm.Cond.instanceMethod ({ cls := "FourParts$Four", name := "isGreater", desc := "(LFourParts$Four;)Z" } : Jvm.MethodName)) ∈ lw_all := lw_g (lw_at lw_m2 216 rfl) rfl
theorem q475 : (Jvm.Cond.selects "FourParts$Four" ({ cls := "FourParts$Four", name := "isGreater", desc := "(LFourParts$Four;)Z" } : Jvm.MethodName) ({ cls := "FourParts$Four", name := "isGreater", desc := "(LFourParts$Four;)Z" } : Jvm.MethodName)) ∈ lw_all := lw_g (lw_at lw_m2 217 rfl) rfl
theorem q476 : (Jvm.Cond.code ({ cls := "FourParts$Four", name := "isGreater", desc := "(LFourParts$Four;)Z" } : Jvm.MethodName) prog_2_method_9_code (2 : Nat) (Option.some Jvm.ClassFile.FieldType.boolean)) ∈ lw_all := lw_g (lw_at lw_m2 218 rfl) rfl
theorem q813 : (Jvm.Cond.selects "FourParts$Four" ({ cls := "FourParts$Four", name := "part", desc := "(I)J" } : Jvm.MethodName) ({ cls := "FourParts$Four", name := "part", desc := "(I)J" } : Jvm.MethodName)) ∈ lw_all := lw_g (lw_at lw_m4 75 rfl) rfl
theorem q817 : (Jvm.Cond.castable "FourParts$Four" "java/lang/Object") ∈ lw_tbl := lw_at lw_m4 79 rfl
theorem in_X1 : ∀ w ∈ wsX10, w ∈ lw_all := lw_in wsX10 [241, 243, 245, 247] (by decide +kernel) (by decide +kernel)

/-! FourParts$Side -/
set_option maxRecDepth 100000
def RX2 : String := "FourParts$Side"
abbrev cX2_init : ByteArray := prog_7_method_1_code
def yX2_init : MethodName := ⟨RX2, "<init>", "()V"⟩
theorem dX2_init_0 : decode cX2_init 0 = .ok (.aload_n 0, 1) := by decide +kernel
theorem dX2_init_1 : decode cX2_init 1 = .ok (.invokespecial 1, 3) := by decide +kernel
theorem dX2_init_4 : decode cX2_init 4 = .ok (.return_, 1) := by decide +kernel
abbrev cX2_quotient : ByteArray := prog_7_method_3_code
def yX2_quotient : MethodName := ⟨RX2, "quotient", "(LFourParts$Four;LFourParts$Four;)LFourParts$Four;"⟩
def dkwX2_quotient_0 : List UInt8 := [42, 43, 44, 182, 0, 7, 182, 0, 13, 44, 182, 0, 19, 182, 0, 23, 176]
abbrev dktX2_quotient_0 : List UInt8 := dkwX2_quotient_0 ++ []
theorem dksX2_quotient_0 : cX2_quotient.data.toList.drop 0 = dktX2_quotient_0 := by decide +kernel
theorem dX2_quotient_0 : decode cX2_quotient 0 = .ok (.aload_n 0, 1) := dk_42 (dk_at dksX2_quotient_0 0 rfl rfl)
theorem dX2_quotient_1 : decode cX2_quotient 1 = .ok (.aload_n 1, 1) := dk_43 (dk_at dksX2_quotient_0 1 rfl rfl)
theorem dX2_quotient_2 : decode cX2_quotient 2 = .ok (.aload_n 2, 1) := dk_44 (dk_at dksX2_quotient_0 2 rfl rfl)
theorem dX2_quotient_3 : decode cX2_quotient 3 = .ok (.invokevirtual 7, 3) := dk_182 0 7 (dk_at dksX2_quotient_0 3 rfl rfl)
theorem dX2_quotient_6 : decode cX2_quotient 6 = .ok (.invokevirtual 13, 3) := dk_182 0 13 (dk_at dksX2_quotient_0 6 rfl rfl)
theorem dX2_quotient_9 : decode cX2_quotient 9 = .ok (.aload_n 2, 1) := dk_44 (dk_at dksX2_quotient_0 9 rfl rfl)
theorem dX2_quotient_10 : decode cX2_quotient 10 = .ok (.invokevirtual 19, 3) := dk_182 0 19 (dk_at dksX2_quotient_0 10 rfl rfl)
theorem dX2_quotient_13 : decode cX2_quotient 13 = .ok (.invokevirtual 23, 3) := dk_182 0 23 (dk_at dksX2_quotient_0 13 rfl rfl)
theorem dX2_quotient_16 : decode cX2_quotient 16 = .ok (.areturn, 1) := dk_176 (dk_at dksX2_quotient_0 16 rfl rfl)
abbrev cX2_rest : ByteArray := prog_7_method_4_code
def yX2_rest : MethodName := ⟨RX2, "rest", "(LFourParts$Four;LFourParts$Four;LFourParts$Four;)LFourParts$Four;"⟩
def dkwX2_rest_0 : List UInt8 := [43, 42, 44, 45, 182, 0, 13, 20, 0, 27, 182, 0, 29, 176]
abbrev dktX2_rest_0 : List UInt8 := dkwX2_rest_0 ++ []
theorem dksX2_rest_0 : cX2_rest.data.toList.drop 0 = dktX2_rest_0 := by decide +kernel
theorem dX2_rest_0 : decode cX2_rest 0 = .ok (.aload_n 1, 1) := dk_43 (dk_at dksX2_rest_0 0 rfl rfl)
theorem dX2_rest_1 : decode cX2_rest 1 = .ok (.aload_n 0, 1) := dk_42 (dk_at dksX2_rest_0 1 rfl rfl)
theorem dX2_rest_2 : decode cX2_rest 2 = .ok (.aload_n 2, 1) := dk_44 (dk_at dksX2_rest_0 2 rfl rfl)
theorem dX2_rest_3 : decode cX2_rest 3 = .ok (.aload_n 3, 1) := dk_45 (dk_at dksX2_rest_0 3 rfl rfl)
theorem dX2_rest_4 : decode cX2_rest 4 = .ok (.invokevirtual 13, 3) := dk_182 0 13 (dk_at dksX2_rest_0 4 rfl rfl)
theorem dX2_rest_7 : decode cX2_rest 7 = .ok (.ldc2_w 27, 3) := dk_20 0 27 (dk_at dksX2_rest_0 7 rfl rfl)
theorem dX2_rest_10 : decode cX2_rest 10 = .ok (.invokevirtual 29, 3) := dk_182 0 29 (dk_at dksX2_rest_0 10 rfl rfl)
theorem dX2_rest_13 : decode cX2_rest 13 = .ok (.areturn, 1) := dk_176 (dk_at dksX2_rest_0 13 rfl rfl)
abbrev cX2_divisor : ByteArray := prog_7_method_5_code
def yX2_divisor : MethodName := ⟨RX2, "divisor", "(LFourParts$Four;LFourParts$Four;[LFourParts$Four;)LFourParts$Four;"⟩
def dkwX2_divisor_2 : List UInt8 := [45, 182, 0, 44, 176]
abbrev dktX2_divisor_2 : List UInt8 := dkwX2_divisor_2 ++ []
def dkwX2_divisor_1 : List UInt8 := [182, 0, 37, 25, 5, 182, 0, 40, 58, 6, 25, 5, 58, 4, 25, 6, 58, 5, 167, 255, 222, 42, 25, 4]
abbrev dktX2_divisor_1 : List UInt8 := dkwX2_divisor_1 ++ dktX2_divisor_2
def dkwX2_divisor_0 : List UInt8 := [43, 58, 4, 44, 58, 5, 25, 5, 182, 0, 33, 154, 0, 32, 42, 25, 4, 42, 25, 4, 25, 5]
abbrev dktX2_divisor_0 : List UInt8 := dkwX2_divisor_0 ++ dktX2_divisor_1
theorem dksX2_divisor_0 : cX2_divisor.data.toList.drop 0 = dktX2_divisor_0 := by decide +kernel
theorem dksX2_divisor_1 : cX2_divisor.data.toList.drop 22 = dktX2_divisor_1 := dk_seg dksX2_divisor_0 22 rfl rfl
theorem dksX2_divisor_2 : cX2_divisor.data.toList.drop 46 = dktX2_divisor_2 := dk_seg dksX2_divisor_1 24 rfl rfl
theorem dX2_divisor_0 : decode cX2_divisor 0 = .ok (.aload_n 1, 1) := dk_43 (dk_at dksX2_divisor_0 0 rfl rfl)
theorem dX2_divisor_1 : decode cX2_divisor 1 = .ok (.astore 4, 2) := dk_58 4 (dk_at dksX2_divisor_0 1 rfl rfl)
theorem dX2_divisor_3 : decode cX2_divisor 3 = .ok (.aload_n 2, 1) := dk_44 (dk_at dksX2_divisor_0 3 rfl rfl)
theorem dX2_divisor_4 : decode cX2_divisor 4 = .ok (.astore 5, 2) := dk_58 5 (dk_at dksX2_divisor_0 4 rfl rfl)
theorem dX2_divisor_6 : decode cX2_divisor 6 = .ok (.aload 5, 2) := dk_25 5 (dk_at dksX2_divisor_0 6 rfl rfl)
theorem dX2_divisor_8 : decode cX2_divisor 8 = .ok (.invokevirtual 33, 3) := dk_182 0 33 (dk_at dksX2_divisor_0 8 rfl rfl)
theorem dX2_divisor_11 : decode cX2_divisor 11 = .ok (.ifCond .ne 32, 3) := dk_154 0 32 (dk_at dksX2_divisor_0 11 rfl rfl)
theorem dX2_divisor_14 : decode cX2_divisor 14 = .ok (.aload_n 0, 1) := dk_42 (dk_at dksX2_divisor_0 14 rfl rfl)
theorem dX2_divisor_15 : decode cX2_divisor 15 = .ok (.aload 4, 2) := dk_25 4 (dk_at dksX2_divisor_0 15 rfl rfl)
theorem dX2_divisor_17 : decode cX2_divisor 17 = .ok (.aload_n 0, 1) := dk_42 (dk_at dksX2_divisor_0 17 rfl rfl)
theorem dX2_divisor_18 : decode cX2_divisor 18 = .ok (.aload 4, 2) := dk_25 4 (dk_at dksX2_divisor_0 18 rfl rfl)
theorem dX2_divisor_20 : decode cX2_divisor 20 = .ok (.aload 5, 2) := dk_25 5 (dk_at dksX2_divisor_0 20 rfl rfl)
theorem dX2_divisor_22 : decode cX2_divisor 22 = .ok (.invokevirtual 37, 3) := dk_182 0 37 (dk_at dksX2_divisor_1 0 rfl rfl)
theorem dX2_divisor_25 : decode cX2_divisor 25 = .ok (.aload 5, 2) := dk_25 5 (dk_at dksX2_divisor_1 3 rfl rfl)
theorem dX2_divisor_27 : decode cX2_divisor 27 = .ok (.invokevirtual 40, 3) := dk_182 0 40 (dk_at dksX2_divisor_1 5 rfl rfl)
theorem dX2_divisor_30 : decode cX2_divisor 30 = .ok (.astore 6, 2) := dk_58 6 (dk_at dksX2_divisor_1 8 rfl rfl)
theorem dX2_divisor_32 : decode cX2_divisor 32 = .ok (.aload 5, 2) := dk_25 5 (dk_at dksX2_divisor_1 10 rfl rfl)
theorem dX2_divisor_34 : decode cX2_divisor 34 = .ok (.astore 4, 2) := dk_58 4 (dk_at dksX2_divisor_1 12 rfl rfl)
theorem dX2_divisor_36 : decode cX2_divisor 36 = .ok (.aload 6, 2) := dk_25 6 (dk_at dksX2_divisor_1 14 rfl rfl)
theorem dX2_divisor_38 : decode cX2_divisor 38 = .ok (.astore 5, 2) := dk_58 5 (dk_at dksX2_divisor_1 16 rfl rfl)
theorem dX2_divisor_40 : decode cX2_divisor 40 = .ok (.goto (-34), 3) := dk_167 255 222 (dk_at dksX2_divisor_1 18 rfl rfl)
theorem dX2_divisor_43 : decode cX2_divisor 43 = .ok (.aload_n 0, 1) := dk_42 (dk_at dksX2_divisor_1 21 rfl rfl)
theorem dX2_divisor_44 : decode cX2_divisor 44 = .ok (.aload 4, 2) := dk_25 4 (dk_at dksX2_divisor_1 22 rfl rfl)
theorem dX2_divisor_46 : decode cX2_divisor 46 = .ok (.aload_n 3, 1) := dk_45 (dk_at dksX2_divisor_2 0 rfl rfl)
theorem dX2_divisor_47 : decode cX2_divisor 47 = .ok (.invokevirtual 44, 3) := dk_182 0 44 (dk_at dksX2_divisor_2 1 rfl rfl)
theorem dX2_divisor_50 : decode cX2_divisor 50 = .ok (.areturn, 1) := dk_176 (dk_at dksX2_divisor_2 4 rfl rfl)
abbrev cX2_greatest : ByteArray := prog_7_method_6_code
def yX2_greatest : MethodName := ⟨RX2, "greatest", "(LFourParts$Four;[LFourParts$Four;)LFourParts$Four;"⟩
def dkwX2_greatest_2 : List UInt8 := [167, 0, 4, 45, 78, 132, 6, 1, 167, 255, 214, 45, 176]
abbrev dktX2_greatest_2 : List UInt8 := dkwX2_greatest_2 ++ []
def dkwX2_greatest_1 : List UInt8 := [50, 58, 7, 42, 25, 7, 43, 182, 0, 13, 58, 8, 25, 8, 45, 182, 0, 48, 153, 0, 8, 25, 8]
abbrev dktX2_greatest_1 : List UInt8 := dkwX2_greatest_1 ++ dktX2_greatest_2
def dkwX2_greatest_0 : List UInt8 := [43, 78, 44, 58, 4, 25, 4, 190, 54, 5, 3, 54, 6, 21, 6, 21, 5, 162, 0, 41, 25, 4, 21, 6]
abbrev dktX2_greatest_0 : List UInt8 := dkwX2_greatest_0 ++ dktX2_greatest_1
theorem dksX2_greatest_0 : cX2_greatest.data.toList.drop 0 = dktX2_greatest_0 := by decide +kernel
theorem dksX2_greatest_1 : cX2_greatest.data.toList.drop 24 = dktX2_greatest_1 := dk_seg dksX2_greatest_0 24 rfl rfl
theorem dksX2_greatest_2 : cX2_greatest.data.toList.drop 47 = dktX2_greatest_2 := dk_seg dksX2_greatest_1 23 rfl rfl
theorem dX2_greatest_0 : decode cX2_greatest 0 = .ok (.aload_n 1, 1) := dk_43 (dk_at dksX2_greatest_0 0 rfl rfl)
theorem dX2_greatest_1 : decode cX2_greatest 1 = .ok (.astore_n 3, 1) := dk_78 (dk_at dksX2_greatest_0 1 rfl rfl)
theorem dX2_greatest_2 : decode cX2_greatest 2 = .ok (.aload_n 2, 1) := dk_44 (dk_at dksX2_greatest_0 2 rfl rfl)
theorem dX2_greatest_3 : decode cX2_greatest 3 = .ok (.astore 4, 2) := dk_58 4 (dk_at dksX2_greatest_0 3 rfl rfl)
theorem dX2_greatest_5 : decode cX2_greatest 5 = .ok (.aload 4, 2) := dk_25 4 (dk_at dksX2_greatest_0 5 rfl rfl)
theorem dX2_greatest_7 : decode cX2_greatest 7 = .ok (.arraylength, 1) := dk_190 (dk_at dksX2_greatest_0 7 rfl rfl)
theorem dX2_greatest_8 : decode cX2_greatest 8 = .ok (.istore 5, 2) := dk_54 5 (dk_at dksX2_greatest_0 8 rfl rfl)
theorem dX2_greatest_10 : decode cX2_greatest 10 = .ok (.iconst 0, 1) := dk_3 (dk_at dksX2_greatest_0 10 rfl rfl)
theorem dX2_greatest_11 : decode cX2_greatest 11 = .ok (.istore 6, 2) := dk_54 6 (dk_at dksX2_greatest_0 11 rfl rfl)
theorem dX2_greatest_13 : decode cX2_greatest 13 = .ok (.iload 6, 2) := dk_21 6 (dk_at dksX2_greatest_0 13 rfl rfl)
theorem dX2_greatest_15 : decode cX2_greatest 15 = .ok (.iload 5, 2) := dk_21 5 (dk_at dksX2_greatest_0 15 rfl rfl)
theorem dX2_greatest_17 : decode cX2_greatest 17 = .ok (.if_icmp .ge 41, 3) := dk_162 0 41 (dk_at dksX2_greatest_0 17 rfl rfl)
theorem dX2_greatest_20 : decode cX2_greatest 20 = .ok (.aload 4, 2) := dk_25 4 (dk_at dksX2_greatest_0 20 rfl rfl)
theorem dX2_greatest_22 : decode cX2_greatest 22 = .ok (.iload 6, 2) := dk_21 6 (dk_at dksX2_greatest_0 22 rfl rfl)
theorem dX2_greatest_24 : decode cX2_greatest 24 = .ok (.aaload, 1) := dk_50 (dk_at dksX2_greatest_1 0 rfl rfl)
theorem dX2_greatest_25 : decode cX2_greatest 25 = .ok (.astore 7, 2) := dk_58 7 (dk_at dksX2_greatest_1 1 rfl rfl)
theorem dX2_greatest_27 : decode cX2_greatest 27 = .ok (.aload_n 0, 1) := dk_42 (dk_at dksX2_greatest_1 3 rfl rfl)
theorem dX2_greatest_28 : decode cX2_greatest 28 = .ok (.aload 7, 2) := dk_25 7 (dk_at dksX2_greatest_1 4 rfl rfl)
theorem dX2_greatest_30 : decode cX2_greatest 30 = .ok (.aload_n 1, 1) := dk_43 (dk_at dksX2_greatest_1 6 rfl rfl)
theorem dX2_greatest_31 : decode cX2_greatest 31 = .ok (.invokevirtual 13, 3) := dk_182 0 13 (dk_at dksX2_greatest_1 7 rfl rfl)
theorem dX2_greatest_34 : decode cX2_greatest 34 = .ok (.astore 8, 2) := dk_58 8 (dk_at dksX2_greatest_1 10 rfl rfl)
theorem dX2_greatest_36 : decode cX2_greatest 36 = .ok (.aload 8, 2) := dk_25 8 (dk_at dksX2_greatest_1 12 rfl rfl)
theorem dX2_greatest_38 : decode cX2_greatest 38 = .ok (.aload_n 3, 1) := dk_45 (dk_at dksX2_greatest_1 14 rfl rfl)
theorem dX2_greatest_39 : decode cX2_greatest 39 = .ok (.invokevirtual 48, 3) := dk_182 0 48 (dk_at dksX2_greatest_1 15 rfl rfl)
theorem dX2_greatest_42 : decode cX2_greatest 42 = .ok (.ifCond .eq 8, 3) := dk_153 0 8 (dk_at dksX2_greatest_1 18 rfl rfl)
theorem dX2_greatest_45 : decode cX2_greatest 45 = .ok (.aload 8, 2) := dk_25 8 (dk_at dksX2_greatest_1 21 rfl rfl)
theorem dX2_greatest_47 : decode cX2_greatest 47 = .ok (.goto 4, 3) := dk_167 0 4 (dk_at dksX2_greatest_2 0 rfl rfl)
theorem dX2_greatest_50 : decode cX2_greatest 50 = .ok (.aload_n 3, 1) := dk_45 (dk_at dksX2_greatest_2 3 rfl rfl)
theorem dX2_greatest_51 : decode cX2_greatest 51 = .ok (.astore_n 3, 1) := dk_78 (dk_at dksX2_greatest_2 4 rfl rfl)
theorem dX2_greatest_52 : decode cX2_greatest 52 = .ok (.iinc 6 1, 3) := dk_132 6 1 (dk_at dksX2_greatest_2 5 rfl rfl)
theorem dX2_greatest_55 : decode cX2_greatest 55 = .ok (.goto (-42), 3) := dk_167 255 214 (dk_at dksX2_greatest_2 8 rfl rfl)
theorem dX2_greatest_58 : decode cX2_greatest 58 = .ok (.aload_n 3, 1) := dk_45 (dk_at dksX2_greatest_2 11 rfl rfl)
theorem dX2_greatest_59 : decode cX2_greatest 59 = .ok (.areturn, 1) := dk_176 (dk_at dksX2_greatest_2 12 rfl rfl)
theorem q21 : (Jvm.Cond.initialized "FourParts$Side") ∈ lw_all := lw_g (lw_at lw_m1 3 rfl) rfl
theorem q277 : (Jvm.Cond.instanceMethod ({ cls := "FourParts$Side", name := "<init>", desc := "()V" } : Jvm.MethodName)) ∈ lw_all := lw_g (lw_at lw_m2 19 rfl) rfl
theorem q278 : (Jvm.Cond.code ({ cls := "FourParts$Side", name := "<init>", desc := "()V" } : Jvm.MethodName) prog_7_method_1_code (1 : Nat) (Option.none : Option Jvm.ClassFile.FieldType)) ∈ lw_all := lw_g (lw_at lw_m2 20 rfl) rfl
theorem q279 : (Jvm.Cond.methodLink "FourParts$Side" (1 : Nat) ({ cls := "java/lang/Object", name := "<init>", desc := "()V" } : Jvm.MethodName)) ∈ lw_all := lw_g (lw_at lw_m2 21 rfl) rfl
theorem q408 : (Jvm.Cond.declares ({ cls := "FourParts$Side", name := "product", desc := "(LFourParts$Four;LFourParts$Four;)LFourParts$Four;" } : Jvm.MethodName)) ∈ lw_tbl := lw_at lw_m2 150 rfl
theorem q409 : (Jvm.Cond.sameMethod "FourParts$Side" "FourParts$Side" "product" "(LFourParts$Four;LFourParts$Four;)LFourParts$Four;") ∈ lw_all := lw_g (lw_at lw_m2 151 rfl) rfl
theorem q423 : (Jvm.Cond.instanceMethod ({ cls := "FourParts$Side", name := "quotient", desc := "(LFourParts$Four;LFourParts$Four;)LFourParts$Four;" } : Jvm.MethodName)) ∈ lw_all := lw_g (lw_at lw_m2 165 rfl) rfl
theorem q424 : (Jvm.Cond.sameMethod "FourParts$Side" "FourParts$Side" "quotient" "(LFourParts$Four;LFourParts$Four;)LFourParts$Four;") ∈ lw_all := lw_g (lw_at lw_m2 166 rfl) rfl
theorem q427 : (Jvm.Cond.code ({ cls := "FourParts$Side", name := "quotient", desc := "(LFourParts$Four;LFourParts$Four;)LFourParts$Four;" } : Jvm.MethodName) prog_7_method_3_code (3 : Nat) (Option.some (Jvm.ClassFile.FieldType.object "FourParts$Four"))) ∈ lw_all := lw_g (lw_at lw_m2 169 rfl) rfl
theorem q428 : (Jvm.Cond.methodLink "FourParts$Side" (7 : Nat) ({ cls := "FourParts$Four", name := "mirror", desc := "()LFourParts$Four;" } : Jvm.MethodName)) ∈ lw_all := lw_g (lw_at lw_m2 170 rfl) rfl
theorem q429 : (Jvm.Cond.methodLink "FourParts$Side" (13 : Nat) ({ cls := "FourParts$Side", name := "product", desc := "(LFourParts$Four;LFourParts$Four;)LFourParts$Four;" } : Jvm.MethodName)) ∈ lw_all := lw_g (lw_at lw_m2 171 rfl) rfl
theorem q430 : (Jvm.Cond.methodLink "FourParts$Side" (19 : Nat) ({ cls := "FourParts$Four", name := "norm", desc := "()J" } : Jvm.MethodName)) ∈ lw_all := lw_g (lw_at lw_m2 172 rfl) rfl
theorem q431 : (Jvm.Cond.methodLink "FourParts$Side" (23 : Nat) ({ cls := "FourParts$Four", name := "near", desc := "(J)LFourParts$Four;" } : Jvm.MethodName)) ∈ lw_all := lw_g (lw_at lw_m2 173 rfl) rfl
theorem q448 : (Jvm.Cond.instanceMethod ({ cls := "FourParts$Side", name := "rest", desc := "(LFourParts$Four;LFourParts$Four;LFourParts$Four;)LFourParts$Four;" } : Jvm.MethodName)) ∈ lw_all := lw_g (lw_at lw_m2 190 rfl) rfl
theorem q449 : (Jvm.Cond.sameMethod "FourParts$Side" "FourParts$Side" "rest" "(LFourParts$Four;LFourParts$Four;LFourParts$Four;)LFourParts$Four;") ∈ lw_all := lw_g (lw_at lw_m2 191 rfl) rfl
theorem q452 : (Jvm.Cond.code ({ cls := "FourParts$Side", name := "rest", desc := "(LFourParts$Four;LFourParts$Four;LFourParts$Four;)LFourParts$Four;" } : Jvm.MethodName) prog_7_method_4_code (4 : Nat) (Option.some (Jvm.ClassFile.FieldType.object "FourParts$Four"))) ∈ lw_all := lw_g (lw_at lw_m2 194 rfl) rfl
theorem q453 : (Jvm.Cond.constantLong "FourParts$Side" (27 : Nat) (-1 : Int64)) ∈ lw_all := lw_g (lw_at lw_m2 195 rfl) rfl
theorem q454 : (Jvm.Cond.methodLink "FourParts$Side" (29 : Nat) ({ cls := "FourParts$Four", name := "plus", desc := "(LFourParts$Four;J)LFourParts$Four;" } : Jvm.MethodName)) ∈ lw_all := lw_g (lw_at lw_m2 196 rfl) rfl
theorem q460 : (Jvm.Cond.instanceMethod ({ cls := "FourParts$Side", name := "divisor", desc := "(LFourParts$Four;LFourParts$Four;[LFourParts$Four;)LFourParts$Four;" } : Jvm.MethodName)) ∈ lw_all := lw_g (lw_at lw_m2 202 rfl) rfl
theorem q461 : (Jvm.Cond.sameMethod "FourParts$Side" "FourParts$Side" "divisor" "(LFourParts$Four;LFourParts$Four;[LFourParts$Four;)LFourParts$Four;") ∈ lw_all := lw_g (lw_at lw_m2 203 rfl) rfl
theorem q464 : (Jvm.Cond.code ({ cls := "FourParts$Side", name := "divisor", desc := "(LFourParts$Four;LFourParts$Four;[LFourParts$Four;)LFourParts$Four;" } : Jvm.MethodName) prog_7_method_5_code (7 : Nat) (Option.some (Jvm.ClassFile.FieldType.object "FourParts$Four"))) ∈ lw_all := lw_g (lw_at lw_m2 206 rfl) rfl
theorem q465 : (Jvm.Cond.methodLink "FourParts$Side" (37 : Nat) ({ cls := "FourParts$Side", name := "quotient", desc := "(LFourParts$Four;LFourParts$Four;)LFourParts$Four;" } : Jvm.MethodName)) ∈ lw_all := lw_g (lw_at lw_m2 207 rfl) rfl
theorem q466 : (Jvm.Cond.methodLink "FourParts$Side" (40 : Nat) ({ cls := "FourParts$Side", name := "rest", desc := "(LFourParts$Four;LFourParts$Four;LFourParts$Four;)LFourParts$Four;" } : Jvm.MethodName)) ∈ lw_all := lw_g (lw_at lw_m2 208 rfl) rfl
theorem q467 : (Jvm.Cond.methodLink "FourParts$Side" (44 : Nat) ({ cls := "FourParts$Side", name := "greatest", desc := "(LFourParts$Four;[LFourParts$Four;)LFourParts$Four;" } : Jvm.MethodName)) ∈ lw_all := lw_g (lw_at lw_m2 209 rfl) rfl
theorem q468 : (Jvm.Cond.instanceMethod ({ cls := "FourParts$Side", name := "greatest", desc := "(LFourParts$Four;[LFourParts$Four;)LFourParts$Four;" } : Jvm.MethodName)) ∈ lw_all := lw_g (lw_at lw_m2 210 rfl) rfl
theorem q469 : (Jvm.Cond.sameMethod "FourParts$Side" "FourParts$Side" "greatest" "(LFourParts$Four;[LFourParts$Four;)LFourParts$Four;") ∈ lw_all := lw_g (lw_at lw_m2 211 rfl) rfl
theorem q472 : (Jvm.Cond.code ({ cls := "FourParts$Side", name := "greatest", desc := "(LFourParts$Four;[LFourParts$Four;)LFourParts$Four;" } : Jvm.MethodName) prog_7_method_6_code (9 : Nat) (Option.some (Jvm.ClassFile.FieldType.object "FourParts$Four"))) ∈ lw_all := lw_g (lw_at lw_m2 214 rfl) rfl
theorem q473 : (Jvm.Cond.methodLink "FourParts$Side" (48 : Nat) ({ cls := "FourParts$Four", name := "isGreater", desc := "(LFourParts$Four;)Z" } : Jvm.MethodName)) ∈ lw_all := lw_g (lw_at lw_m2 215 rfl) rfl

/-! FourParts$Right -/
set_option maxRecDepth 100000
def RX3 : String := "FourParts$Right"
abbrev cX3_init : ByteArray := prog_6_method_1_code
def yX3_init : MethodName := ⟨RX3, "<init>", "()V"⟩
theorem dX3_init_0 : decode cX3_init 0 = .ok (.aload_n 0, 1) := by decide +kernel
theorem dX3_init_1 : decode cX3_init 1 = .ok (.invokespecial 1, 3) := by decide +kernel
theorem dX3_init_4 : decode cX3_init 4 = .ok (.return_, 1) := by decide +kernel
abbrev cX3_product : ByteArray := prog_6_method_2_code
def yX3_product : MethodName := ⟨RX3, "product", "(LFourParts$Four;LFourParts$Four;)LFourParts$Four;"⟩
def dkwX3_product_0 : List UInt8 := [43, 44, 182, 0, 7, 176]
abbrev dktX3_product_0 : List UInt8 := dkwX3_product_0 ++ []
theorem dksX3_product_0 : cX3_product.data.toList.drop 0 = dktX3_product_0 := by decide +kernel
theorem dX3_product_0 : decode cX3_product 0 = .ok (.aload_n 1, 1) := dk_43 (dk_at dksX3_product_0 0 rfl rfl)
theorem dX3_product_1 : decode cX3_product 1 = .ok (.aload_n 2, 1) := dk_44 (dk_at dksX3_product_0 1 rfl rfl)
theorem dX3_product_2 : decode cX3_product 2 = .ok (.invokevirtual 7, 3) := dk_182 0 7 (dk_at dksX3_product_0 2 rfl rfl)
theorem dX3_product_5 : decode cX3_product 5 = .ok (.areturn, 1) := dk_176 (dk_at dksX3_product_0 5 rfl rfl)
theorem q22 : (Jvm.Cond.initialized "FourParts$Right") ∈ lw_all := lw_g (lw_at lw_m1 4 rfl) rfl
theorem q272 : (Jvm.Cond.instantiable "FourParts$Right" (0 : Nat)) ∈ lw_all := lw_g (lw_at lw_m2 14 rfl) rfl
theorem q274 : (Jvm.Cond.instanceMethod ({ cls := "FourParts$Right", name := "<init>", desc := "()V" } : Jvm.MethodName)) ∈ lw_all := lw_g (lw_at lw_m2 16 rfl) rfl
theorem q275 : (Jvm.Cond.code ({ cls := "FourParts$Right", name := "<init>", desc := "()V" } : Jvm.MethodName) prog_6_method_1_code (1 : Nat) (Option.none : Option Jvm.ClassFile.FieldType)) ∈ lw_all := lw_g (lw_at lw_m2 17 rfl) rfl
theorem q276 : (Jvm.Cond.methodLinkNest "FourParts$Right" (1 : Nat) ({ cls := "FourParts$Side", name := "<init>", desc := "()V" } : Jvm.MethodName) "FourParts") ∈ lw_tbl := lw_at lw_m2 18 rfl
theorem q280 : (Jvm.Cond.superclass "FourParts$Right" "FourParts$Side") ∈ lw_all := lw_g (lw_at lw_m2 22 rfl) rfl
theorem q414 : (Jvm.Cond.instanceMethod ({ cls := "FourParts$Right", name := "product", desc := "(LFourParts$Four;LFourParts$Four;)LFourParts$Four;" } : Jvm.MethodName)) ∈ lw_all := lw_g (lw_at lw_m2 156 rfl) rfl
theorem q415 : (Jvm.Cond.code ({ cls := "FourParts$Right", name := "product", desc := "(LFourParts$Four;LFourParts$Four;)LFourParts$Four;" } : Jvm.MethodName) prog_6_method_2_code (3 : Nat) (Option.some (Jvm.ClassFile.FieldType.object "FourParts$Four"))) ∈ lw_all := lw_g (lw_at lw_m2 157 rfl) rfl
theorem q416 : (Jvm.Cond.methodLink "FourParts$Right" (7 : Nat) ({ cls := "FourParts$Four", name := "times", desc := "(LFourParts$Four;)LFourParts$Four;" } : Jvm.MethodName)) ∈ lw_all := lw_g (lw_at lw_m2 158 rfl) rfl
theorem q417 : (Jvm.Cond.selects "FourParts$Right" ({ cls := "FourParts$Side", name := "product", desc := "(LFourParts$Four;LFourParts$Four;)LFourParts$Four;" } : Jvm.MethodName) ({ cls := "FourParts$Right", name := "product", desc := "(LFourParts$Four;LFourParts$Four;)LFourParts$Four;" } : Jvm.MethodName)) ∈ lw_all := lw_g (lw_at lw_m2 159 rfl) rfl
theorem q426 : (Jvm.Cond.selects "FourParts$Right" ({ cls := "FourParts$Side", name := "quotient", desc := "(LFourParts$Four;LFourParts$Four;)LFourParts$Four;" } : Jvm.MethodName) ({ cls := "FourParts$Side", name := "quotient", desc := "(LFourParts$Four;LFourParts$Four;)LFourParts$Four;" } : Jvm.MethodName)) ∈ lw_all := lw_g (lw_at lw_m2 168 rfl) rfl
theorem q451 : (Jvm.Cond.selects "FourParts$Right" ({ cls := "FourParts$Side", name := "rest", desc := "(LFourParts$Four;LFourParts$Four;LFourParts$Four;)LFourParts$Four;" } : Jvm.MethodName) ({ cls := "FourParts$Side", name := "rest", desc := "(LFourParts$Four;LFourParts$Four;LFourParts$Four;)LFourParts$Four;" } : Jvm.MethodName)) ∈ lw_all := lw_g (lw_at lw_m2 193 rfl) rfl
theorem q463 : (Jvm.Cond.selects "FourParts$Right" ({ cls := "FourParts$Side", name := "divisor", desc := "(LFourParts$Four;LFourParts$Four;[LFourParts$Four;)LFourParts$Four;" } : Jvm.MethodName) ({ cls := "FourParts$Side", name := "divisor", desc := "(LFourParts$Four;LFourParts$Four;[LFourParts$Four;)LFourParts$Four;" } : Jvm.MethodName)) ∈ lw_all := lw_g (lw_at lw_m2 205 rfl) rfl
theorem q471 : (Jvm.Cond.selects "FourParts$Right" ({ cls := "FourParts$Side", name := "greatest", desc := "(LFourParts$Four;[LFourParts$Four;)LFourParts$Four;" } : Jvm.MethodName) ({ cls := "FourParts$Side", name := "greatest", desc := "(LFourParts$Four;[LFourParts$Four;)LFourParts$Four;" } : Jvm.MethodName)) ∈ lw_all := lw_g (lw_at lw_m2 213 rfl) rfl
theorem q814 : (Jvm.Cond.sameMethod "FourParts$Right" "FourParts$Right" "product" "(LFourParts$Four;LFourParts$Four;)LFourParts$Four;") ∈ lw_all := lw_g (lw_at lw_m4 76 rfl) rfl
theorem q818 : (Jvm.Cond.castable "FourParts$Right" "java/lang/Object") ∈ lw_tbl := lw_at lw_m4 80 rfl
theorem q827 : (Jvm.Cond.castable "FourParts$Right" "FourParts$Side") ∈ lw_tbl := lw_at lw_m4 89 rfl

/-! FourParts$Left -/
set_option maxRecDepth 100000
def RX4 : String := "FourParts$Left"
abbrev cX4_init : ByteArray := prog_3_method_1_code
def yX4_init : MethodName := ⟨RX4, "<init>", "()V"⟩
theorem dX4_init_0 : decode cX4_init 0 = .ok (.aload_n 0, 1) := by decide +kernel
theorem dX4_init_1 : decode cX4_init 1 = .ok (.invokespecial 1, 3) := by decide +kernel
theorem dX4_init_4 : decode cX4_init 4 = .ok (.return_, 1) := by decide +kernel
abbrev cX4_product : ByteArray := prog_3_method_2_code
def yX4_product : MethodName := ⟨RX4, "product", "(LFourParts$Four;LFourParts$Four;)LFourParts$Four;"⟩
def dkwX4_product_0 : List UInt8 := [42, 44, 43, 183, 0, 7, 176]
abbrev dktX4_product_0 : List UInt8 := dkwX4_product_0 ++ []
theorem dksX4_product_0 : cX4_product.data.toList.drop 0 = dktX4_product_0 := by decide +kernel
theorem dX4_product_0 : decode cX4_product 0 = .ok (.aload_n 0, 1) := dk_42 (dk_at dksX4_product_0 0 rfl rfl)
theorem dX4_product_1 : decode cX4_product 1 = .ok (.aload_n 2, 1) := dk_44 (dk_at dksX4_product_0 1 rfl rfl)
theorem dX4_product_2 : decode cX4_product 2 = .ok (.aload_n 1, 1) := dk_43 (dk_at dksX4_product_0 2 rfl rfl)
theorem dX4_product_3 : decode cX4_product 3 = .ok (.invokespecial 7, 3) := dk_183 0 7 (dk_at dksX4_product_0 3 rfl rfl)
theorem dX4_product_6 : decode cX4_product 6 = .ok (.areturn, 1) := dk_176 (dk_at dksX4_product_0 6 rfl rfl)
theorem q23 : (Jvm.Cond.initialized "FourParts$Left") ∈ lw_all := lw_g (lw_at lw_m1 5 rfl) rfl
theorem q282 : (Jvm.Cond.instantiable "FourParts$Left" (0 : Nat)) ∈ lw_all := lw_g (lw_at lw_m2 24 rfl) rfl
theorem q284 : (Jvm.Cond.instanceMethod ({ cls := "FourParts$Left", name := "<init>", desc := "()V" } : Jvm.MethodName)) ∈ lw_all := lw_g (lw_at lw_m2 26 rfl) rfl
theorem q285 : (Jvm.Cond.code ({ cls := "FourParts$Left", name := "<init>", desc := "()V" } : Jvm.MethodName) prog_3_method_1_code (1 : Nat) (Option.none : Option Jvm.ClassFile.FieldType)) ∈ lw_all := lw_g (lw_at lw_m2 27 rfl) rfl
theorem q286 : (Jvm.Cond.methodLinkNest "FourParts$Left" (1 : Nat) ({ cls := "FourParts$Right", name := "<init>", desc := "()V" } : Jvm.MethodName) "FourParts") ∈ lw_tbl := lw_at lw_m2 28 rfl
theorem q287 : (Jvm.Cond.superclass "FourParts$Left" "FourParts$Right") ∈ lw_all := lw_g (lw_at lw_m2 29 rfl) rfl
theorem q410 : (Jvm.Cond.selects "FourParts$Left" ({ cls := "FourParts$Side", name := "product", desc := "(LFourParts$Four;LFourParts$Four;)LFourParts$Four;" } : Jvm.MethodName) ({ cls := "FourParts$Left", name := "product", desc := "(LFourParts$Four;LFourParts$Four;)LFourParts$Four;" } : Jvm.MethodName)) ∈ lw_all := lw_g (lw_at lw_m2 152 rfl) rfl
theorem q411 : (Jvm.Cond.instanceMethod ({ cls := "FourParts$Left", name := "product", desc := "(LFourParts$Four;LFourParts$Four;)LFourParts$Four;" } : Jvm.MethodName)) ∈ lw_all := lw_g (lw_at lw_m2 153 rfl) rfl
theorem q412 : (Jvm.Cond.code ({ cls := "FourParts$Left", name := "product", desc := "(LFourParts$Four;LFourParts$Four;)LFourParts$Four;" } : Jvm.MethodName) prog_3_method_2_code (3 : Nat) (Option.some (Jvm.ClassFile.FieldType.object "FourParts$Four"))) ∈ lw_all := lw_g (lw_at lw_m2 154 rfl) rfl
theorem q413 : (Jvm.Cond.methodLink "FourParts$Left" (7 : Nat) ({ cls := "FourParts$Right", name := "product", desc := "(LFourParts$Four;LFourParts$Four;)LFourParts$Four;" } : Jvm.MethodName)) ∈ lw_all := lw_g (lw_at lw_m2 155 rfl) rfl
theorem q425 : (Jvm.Cond.selects "FourParts$Left" ({ cls := "FourParts$Side", name := "quotient", desc := "(LFourParts$Four;LFourParts$Four;)LFourParts$Four;" } : Jvm.MethodName) ({ cls := "FourParts$Side", name := "quotient", desc := "(LFourParts$Four;LFourParts$Four;)LFourParts$Four;" } : Jvm.MethodName)) ∈ lw_all := lw_g (lw_at lw_m2 167 rfl) rfl
theorem q450 : (Jvm.Cond.selects "FourParts$Left" ({ cls := "FourParts$Side", name := "rest", desc := "(LFourParts$Four;LFourParts$Four;LFourParts$Four;)LFourParts$Four;" } : Jvm.MethodName) ({ cls := "FourParts$Side", name := "rest", desc := "(LFourParts$Four;LFourParts$Four;LFourParts$Four;)LFourParts$Four;" } : Jvm.MethodName)) ∈ lw_all := lw_g (lw_at lw_m2 192 rfl) rfl
theorem q462 : (Jvm.Cond.selects "FourParts$Left" ({ cls := "FourParts$Side", name := "divisor", desc := "(LFourParts$Four;LFourParts$Four;[LFourParts$Four;)LFourParts$Four;" } : Jvm.MethodName) ({ cls := "FourParts$Side", name := "divisor", desc := "(LFourParts$Four;LFourParts$Four;[LFourParts$Four;)LFourParts$Four;" } : Jvm.MethodName)) ∈ lw_all := lw_g (lw_at lw_m2 204 rfl) rfl
theorem q470 : (Jvm.Cond.selects "FourParts$Left" ({ cls := "FourParts$Side", name := "greatest", desc := "(LFourParts$Four;[LFourParts$Four;)LFourParts$Four;" } : Jvm.MethodName) ({ cls := "FourParts$Side", name := "greatest", desc := "(LFourParts$Four;[LFourParts$Four;)LFourParts$Four;" } : Jvm.MethodName)) ∈ lw_all := lw_g (lw_at lw_m2 212 rfl) rfl
theorem q819 : (Jvm.Cond.castable "FourParts$Left" "java/lang/Object") ∈ lw_tbl := lw_at lw_m4 81 rfl
theorem q828 : (Jvm.Cond.castable "FourParts$Left" "FourParts$Side") ∈ lw_tbl := lw_at lw_m4 90 rfl

/-! FourParts$Listing -/
set_option maxRecDepth 100000
def RX6 : String := "FourParts$Listing"
def TX6 : u_T := fun k => match k with
  | 0 => ("FourParts$Listing", "n", "I", true)
  | 1 => ("FourParts$Listing", "most", "I", true)
  | 2 => ("FourParts$Listing", "all", "I", false)
  | 3 => ("FourParts$Listing", "primitive", "I", false)
  | 4 => ("FourParts$Listing", "wanted", "I", true)
  | _ => ("FourParts$Listing", "found", "LFourParts$Four;", false)
def tyX6 : Nat → FieldType := fun k => match k with
  | 0 => .int
  | 1 => .int
  | 2 => .int
  | 3 => .int
  | 4 => .int
  | _ => .object "FourParts$Four"
abbrev wsX60 : List Cond := u_ws RX6 TX6 6
theorem nmX6 : ∀ a, a < 6 → ∀ b, b < 6 → a ≠ b → (TX6 a).2.1 ≠ (TX6 b).2.1 := by decide +kernel
theorem tyX6_ok : ∀ k, k < 6 → parseFieldDescriptor (TX6 k).2.2.1 = some (tyX6 k) := by decide +kernel
abbrev cX6_init : ByteArray := prog_4_method_1_code
def yX6_init : MethodName := ⟨RX6, "<init>", "(II)V"⟩
def dkwX6_init_1 : List UInt8 := [27, 104, 163, 0, 9, 132, 3, 1, 167, 255, 240, 42, 29, 181, 0, 16, 177]
abbrev dktX6_init_1 : List UInt8 := dkwX6_init_1 ++ []
def dkwX6_init_0 : List UInt8 := [42, 183, 0, 1, 42, 27, 181, 0, 7, 42, 28, 181, 0, 13, 3, 62, 29, 4, 96, 29, 4, 96, 104, 7]
abbrev dktX6_init_0 : List UInt8 := dkwX6_init_0 ++ dktX6_init_1
theorem dksX6_init_0 : cX6_init.data.toList.drop 0 = dktX6_init_0 := by decide +kernel
theorem dksX6_init_1 : cX6_init.data.toList.drop 24 = dktX6_init_1 := dk_seg dksX6_init_0 24 rfl rfl
theorem dX6_init_0 : decode cX6_init 0 = .ok (.aload_n 0, 1) := dk_42 (dk_at dksX6_init_0 0 rfl rfl)
theorem dX6_init_1 : decode cX6_init 1 = .ok (.invokespecial 1, 3) := dk_183 0 1 (dk_at dksX6_init_0 1 rfl rfl)
theorem dX6_init_4 : decode cX6_init 4 = .ok (.aload_n 0, 1) := dk_42 (dk_at dksX6_init_0 4 rfl rfl)
theorem dX6_init_5 : decode cX6_init 5 = .ok (.iload_n 1, 1) := dk_27 (dk_at dksX6_init_0 5 rfl rfl)
theorem dX6_init_6 : decode cX6_init 6 = .ok (.putfield 7, 3) := dk_181 0 7 (dk_at dksX6_init_0 6 rfl rfl)
theorem dX6_init_9 : decode cX6_init 9 = .ok (.aload_n 0, 1) := dk_42 (dk_at dksX6_init_0 9 rfl rfl)
theorem dX6_init_10 : decode cX6_init 10 = .ok (.iload_n 2, 1) := dk_28 (dk_at dksX6_init_0 10 rfl rfl)
theorem dX6_init_11 : decode cX6_init 11 = .ok (.putfield 13, 3) := dk_181 0 13 (dk_at dksX6_init_0 11 rfl rfl)
theorem dX6_init_14 : decode cX6_init 14 = .ok (.iconst 0, 1) := dk_3 (dk_at dksX6_init_0 14 rfl rfl)
theorem dX6_init_15 : decode cX6_init 15 = .ok (.istore_n 3, 1) := dk_62 (dk_at dksX6_init_0 15 rfl rfl)
theorem dX6_init_16 : decode cX6_init 16 = .ok (.iload_n 3, 1) := dk_29 (dk_at dksX6_init_0 16 rfl rfl)
theorem dX6_init_17 : decode cX6_init 17 = .ok (.iconst 1, 1) := dk_4 (dk_at dksX6_init_0 17 rfl rfl)
theorem dX6_init_18 : decode cX6_init 18 = .ok (.iadd, 1) := dk_96 (dk_at dksX6_init_0 18 rfl rfl)
theorem dX6_init_19 : decode cX6_init 19 = .ok (.iload_n 3, 1) := dk_29 (dk_at dksX6_init_0 19 rfl rfl)
theorem dX6_init_20 : decode cX6_init 20 = .ok (.iconst 1, 1) := dk_4 (dk_at dksX6_init_0 20 rfl rfl)
theorem dX6_init_21 : decode cX6_init 21 = .ok (.iadd, 1) := dk_96 (dk_at dksX6_init_0 21 rfl rfl)
theorem dX6_init_22 : decode cX6_init 22 = .ok (.imul, 1) := dk_104 (dk_at dksX6_init_0 22 rfl rfl)
theorem dX6_init_23 : decode cX6_init 23 = .ok (.iconst 4, 1) := dk_7 (dk_at dksX6_init_0 23 rfl rfl)
theorem dX6_init_24 : decode cX6_init 24 = .ok (.iload_n 1, 1) := dk_27 (dk_at dksX6_init_1 0 rfl rfl)
theorem dX6_init_25 : decode cX6_init 25 = .ok (.imul, 1) := dk_104 (dk_at dksX6_init_1 1 rfl rfl)
theorem dX6_init_26 : decode cX6_init 26 = .ok (.if_icmp .gt 9, 3) := dk_163 0 9 (dk_at dksX6_init_1 2 rfl rfl)
theorem dX6_init_29 : decode cX6_init 29 = .ok (.iinc 3 1, 3) := dk_132 3 1 (dk_at dksX6_init_1 5 rfl rfl)
theorem dX6_init_32 : decode cX6_init 32 = .ok (.goto (-16), 3) := dk_167 255 240 (dk_at dksX6_init_1 8 rfl rfl)
theorem dX6_init_35 : decode cX6_init 35 = .ok (.aload_n 0, 1) := dk_42 (dk_at dksX6_init_1 11 rfl rfl)
theorem dX6_init_36 : decode cX6_init 36 = .ok (.iload_n 3, 1) := dk_29 (dk_at dksX6_init_1 12 rfl rfl)
theorem dX6_init_37 : decode cX6_init 37 = .ok (.putfield 16, 3) := dk_181 0 16 (dk_at dksX6_init_1 13 rfl rfl)
theorem dX6_init_40 : decode cX6_init 40 = .ok (.return_, 1) := dk_177 (dk_at dksX6_init_1 16 rfl rfl)
abbrev cX6_go : ByteArray := prog_4_method_3_code
def yX6_go : MethodName := ⟨RX6, "go", "(Z)V"⟩
def dkwX6_go_5 : List UInt8 := [167, 255, 206, 132, 3, 255, 167, 255, 162, 132, 2, 255, 167, 255, 135, 177]
abbrev dktX6_go_5 : List UInt8 := dkwX6_go_5 ++ []
def dkwX6_go_4 : List UInt8 := [199, 0, 26, 42, 28, 29, 21, 5, 21, 4, 21, 5, 21, 5, 104, 100, 27, 182, 0, 38, 132, 5, 255]
abbrev dktX6_go_4 : List UInt8 := dkwX6_go_4 ++ dktX6_go_5
def dkwX6_go_3 : List UInt8 := [180, 0, 16, 116, 161, 0, 46, 21, 4, 155, 0, 41, 28, 29, 100, 5, 112, 154, 0, 33, 42, 180, 0, 27]
abbrev dktX6_go_3 : List UInt8 := dkwX6_go_3 ++ dktX6_go_4
def dkwX6_go_2 : List UInt8 := [180, 0, 7, 104, 28, 28, 104, 100, 29, 29, 104, 100, 54, 4, 42, 180, 0, 16, 54, 5, 21, 5, 42]
abbrev dktX6_go_2 : List UInt8 := dkwX6_go_2 ++ dktX6_go_3
def dkwX6_go_1 : List UInt8 := [180, 0, 16, 62, 29, 42, 180, 0, 16, 116, 161, 0, 91, 42, 180, 0, 27, 199, 0, 84, 7, 42]
abbrev dktX6_go_1 : List UInt8 := dkwX6_go_1 ++ dktX6_go_2
def dkwX6_go_0 : List UInt8 := [42, 180, 0, 16, 61, 28, 42, 180, 0, 16, 116, 161, 0, 118, 42, 180, 0, 27, 199, 0, 111, 42]
abbrev dktX6_go_0 : List UInt8 := dkwX6_go_0 ++ dktX6_go_1
theorem dksX6_go_0 : cX6_go.data.toList.drop 0 = dktX6_go_0 := by decide +kernel
theorem dksX6_go_1 : cX6_go.data.toList.drop 22 = dktX6_go_1 := dk_seg dksX6_go_0 22 rfl rfl
theorem dksX6_go_2 : cX6_go.data.toList.drop 44 = dktX6_go_2 := dk_seg dksX6_go_1 22 rfl rfl
theorem dksX6_go_3 : cX6_go.data.toList.drop 67 = dktX6_go_3 := dk_seg dksX6_go_2 23 rfl rfl
theorem dksX6_go_4 : cX6_go.data.toList.drop 91 = dktX6_go_4 := dk_seg dksX6_go_3 24 rfl rfl
theorem dksX6_go_5 : cX6_go.data.toList.drop 114 = dktX6_go_5 := dk_seg dksX6_go_4 23 rfl rfl
theorem dX6_go_0 : decode cX6_go 0 = .ok (.aload_n 0, 1) := dk_42 (dk_at dksX6_go_0 0 rfl rfl)
theorem dX6_go_1 : decode cX6_go 1 = .ok (.getfield 16, 3) := dk_180 0 16 (dk_at dksX6_go_0 1 rfl rfl)
theorem dX6_go_4 : decode cX6_go 4 = .ok (.istore_n 2, 1) := dk_61 (dk_at dksX6_go_0 4 rfl rfl)
theorem dX6_go_5 : decode cX6_go 5 = .ok (.iload_n 2, 1) := dk_28 (dk_at dksX6_go_0 5 rfl rfl)
theorem dX6_go_6 : decode cX6_go 6 = .ok (.aload_n 0, 1) := dk_42 (dk_at dksX6_go_0 6 rfl rfl)
theorem dX6_go_7 : decode cX6_go 7 = .ok (.getfield 16, 3) := dk_180 0 16 (dk_at dksX6_go_0 7 rfl rfl)
theorem dX6_go_10 : decode cX6_go 10 = .ok (.ineg, 1) := dk_116 (dk_at dksX6_go_0 10 rfl rfl)
theorem dX6_go_11 : decode cX6_go 11 = .ok (.if_icmp .lt 118, 3) := dk_161 0 118 (dk_at dksX6_go_0 11 rfl rfl)
theorem dX6_go_14 : decode cX6_go 14 = .ok (.aload_n 0, 1) := dk_42 (dk_at dksX6_go_0 14 rfl rfl)
theorem dX6_go_15 : decode cX6_go 15 = .ok (.getfield 27, 3) := dk_180 0 27 (dk_at dksX6_go_0 15 rfl rfl)
theorem dX6_go_18 : decode cX6_go 18 = .ok (.ifnonnull 111, 3) := dk_199 0 111 (dk_at dksX6_go_0 18 rfl rfl)
theorem dX6_go_21 : decode cX6_go 21 = .ok (.aload_n 0, 1) := dk_42 (dk_at dksX6_go_0 21 rfl rfl)
theorem dX6_go_22 : decode cX6_go 22 = .ok (.getfield 16, 3) := dk_180 0 16 (dk_at dksX6_go_1 0 rfl rfl)
theorem dX6_go_25 : decode cX6_go 25 = .ok (.istore_n 3, 1) := dk_62 (dk_at dksX6_go_1 3 rfl rfl)
theorem dX6_go_26 : decode cX6_go 26 = .ok (.iload_n 3, 1) := dk_29 (dk_at dksX6_go_1 4 rfl rfl)
theorem dX6_go_27 : decode cX6_go 27 = .ok (.aload_n 0, 1) := dk_42 (dk_at dksX6_go_1 5 rfl rfl)
theorem dX6_go_28 : decode cX6_go 28 = .ok (.getfield 16, 3) := dk_180 0 16 (dk_at dksX6_go_1 6 rfl rfl)
theorem dX6_go_31 : decode cX6_go 31 = .ok (.ineg, 1) := dk_116 (dk_at dksX6_go_1 9 rfl rfl)
theorem dX6_go_32 : decode cX6_go 32 = .ok (.if_icmp .lt 91, 3) := dk_161 0 91 (dk_at dksX6_go_1 10 rfl rfl)
theorem dX6_go_35 : decode cX6_go 35 = .ok (.aload_n 0, 1) := dk_42 (dk_at dksX6_go_1 13 rfl rfl)
theorem dX6_go_36 : decode cX6_go 36 = .ok (.getfield 27, 3) := dk_180 0 27 (dk_at dksX6_go_1 14 rfl rfl)
theorem dX6_go_39 : decode cX6_go 39 = .ok (.ifnonnull 84, 3) := dk_199 0 84 (dk_at dksX6_go_1 17 rfl rfl)
theorem dX6_go_42 : decode cX6_go 42 = .ok (.iconst 4, 1) := dk_7 (dk_at dksX6_go_1 20 rfl rfl)
theorem dX6_go_43 : decode cX6_go 43 = .ok (.aload_n 0, 1) := dk_42 (dk_at dksX6_go_1 21 rfl rfl)
theorem dX6_go_44 : decode cX6_go 44 = .ok (.getfield 7, 3) := dk_180 0 7 (dk_at dksX6_go_2 0 rfl rfl)
theorem dX6_go_47 : decode cX6_go 47 = .ok (.imul, 1) := dk_104 (dk_at dksX6_go_2 3 rfl rfl)
theorem dX6_go_48 : decode cX6_go 48 = .ok (.iload_n 2, 1) := dk_28 (dk_at dksX6_go_2 4 rfl rfl)
theorem dX6_go_49 : decode cX6_go 49 = .ok (.iload_n 2, 1) := dk_28 (dk_at dksX6_go_2 5 rfl rfl)
theorem dX6_go_50 : decode cX6_go 50 = .ok (.imul, 1) := dk_104 (dk_at dksX6_go_2 6 rfl rfl)
theorem dX6_go_51 : decode cX6_go 51 = .ok (.isub, 1) := dk_100 (dk_at dksX6_go_2 7 rfl rfl)
theorem dX6_go_52 : decode cX6_go 52 = .ok (.iload_n 3, 1) := dk_29 (dk_at dksX6_go_2 8 rfl rfl)
theorem dX6_go_53 : decode cX6_go 53 = .ok (.iload_n 3, 1) := dk_29 (dk_at dksX6_go_2 9 rfl rfl)
theorem dX6_go_54 : decode cX6_go 54 = .ok (.imul, 1) := dk_104 (dk_at dksX6_go_2 10 rfl rfl)
theorem dX6_go_55 : decode cX6_go 55 = .ok (.isub, 1) := dk_100 (dk_at dksX6_go_2 11 rfl rfl)
theorem dX6_go_56 : decode cX6_go 56 = .ok (.istore 4, 2) := dk_54 4 (dk_at dksX6_go_2 12 rfl rfl)
theorem dX6_go_58 : decode cX6_go 58 = .ok (.aload_n 0, 1) := dk_42 (dk_at dksX6_go_2 14 rfl rfl)
theorem dX6_go_59 : decode cX6_go 59 = .ok (.getfield 16, 3) := dk_180 0 16 (dk_at dksX6_go_2 15 rfl rfl)
theorem dX6_go_62 : decode cX6_go 62 = .ok (.istore 5, 2) := dk_54 5 (dk_at dksX6_go_2 18 rfl rfl)
theorem dX6_go_64 : decode cX6_go 64 = .ok (.iload 5, 2) := dk_21 5 (dk_at dksX6_go_2 20 rfl rfl)
theorem dX6_go_66 : decode cX6_go 66 = .ok (.aload_n 0, 1) := dk_42 (dk_at dksX6_go_2 22 rfl rfl)
theorem dX6_go_67 : decode cX6_go 67 = .ok (.getfield 16, 3) := dk_180 0 16 (dk_at dksX6_go_3 0 rfl rfl)
theorem dX6_go_70 : decode cX6_go 70 = .ok (.ineg, 1) := dk_116 (dk_at dksX6_go_3 3 rfl rfl)
theorem dX6_go_71 : decode cX6_go 71 = .ok (.if_icmp .lt 46, 3) := dk_161 0 46 (dk_at dksX6_go_3 4 rfl rfl)
theorem dX6_go_74 : decode cX6_go 74 = .ok (.iload 4, 2) := dk_21 4 (dk_at dksX6_go_3 7 rfl rfl)
theorem dX6_go_76 : decode cX6_go 76 = .ok (.ifCond .lt 41, 3) := dk_155 0 41 (dk_at dksX6_go_3 9 rfl rfl)
theorem dX6_go_79 : decode cX6_go 79 = .ok (.iload_n 2, 1) := dk_28 (dk_at dksX6_go_3 12 rfl rfl)
theorem dX6_go_80 : decode cX6_go 80 = .ok (.iload_n 3, 1) := dk_29 (dk_at dksX6_go_3 13 rfl rfl)
theorem dX6_go_81 : decode cX6_go 81 = .ok (.isub, 1) := dk_100 (dk_at dksX6_go_3 14 rfl rfl)
theorem dX6_go_82 : decode cX6_go 82 = .ok (.iconst 2, 1) := dk_5 (dk_at dksX6_go_3 15 rfl rfl)
theorem dX6_go_83 : decode cX6_go 83 = .ok (.irem, 1) := dk_112 (dk_at dksX6_go_3 16 rfl rfl)
theorem dX6_go_84 : decode cX6_go 84 = .ok (.ifCond .ne 33, 3) := dk_154 0 33 (dk_at dksX6_go_3 17 rfl rfl)
theorem dX6_go_87 : decode cX6_go 87 = .ok (.aload_n 0, 1) := dk_42 (dk_at dksX6_go_3 20 rfl rfl)
theorem dX6_go_88 : decode cX6_go 88 = .ok (.getfield 27, 3) := dk_180 0 27 (dk_at dksX6_go_3 21 rfl rfl)
theorem dX6_go_91 : decode cX6_go 91 = .ok (.ifnonnull 26, 3) := dk_199 0 26 (dk_at dksX6_go_4 0 rfl rfl)
theorem dX6_go_94 : decode cX6_go 94 = .ok (.aload_n 0, 1) := dk_42 (dk_at dksX6_go_4 3 rfl rfl)
theorem dX6_go_95 : decode cX6_go 95 = .ok (.iload_n 2, 1) := dk_28 (dk_at dksX6_go_4 4 rfl rfl)
theorem dX6_go_96 : decode cX6_go 96 = .ok (.iload_n 3, 1) := dk_29 (dk_at dksX6_go_4 5 rfl rfl)
theorem dX6_go_97 : decode cX6_go 97 = .ok (.iload 5, 2) := dk_21 5 (dk_at dksX6_go_4 6 rfl rfl)
theorem dX6_go_99 : decode cX6_go 99 = .ok (.iload 4, 2) := dk_21 4 (dk_at dksX6_go_4 8 rfl rfl)
theorem dX6_go_101 : decode cX6_go 101 = .ok (.iload 5, 2) := dk_21 5 (dk_at dksX6_go_4 10 rfl rfl)
theorem dX6_go_103 : decode cX6_go 103 = .ok (.iload 5, 2) := dk_21 5 (dk_at dksX6_go_4 12 rfl rfl)
theorem dX6_go_105 : decode cX6_go 105 = .ok (.imul, 1) := dk_104 (dk_at dksX6_go_4 14 rfl rfl)
theorem dX6_go_106 : decode cX6_go 106 = .ok (.isub, 1) := dk_100 (dk_at dksX6_go_4 15 rfl rfl)
theorem dX6_go_107 : decode cX6_go 107 = .ok (.iload_n 1, 1) := dk_27 (dk_at dksX6_go_4 16 rfl rfl)
theorem dX6_go_108 : decode cX6_go 108 = .ok (.invokevirtual 38, 3) := dk_182 0 38 (dk_at dksX6_go_4 17 rfl rfl)
theorem dX6_go_111 : decode cX6_go 111 = .ok (.iinc 5 (-1), 3) := dk_132 5 255 (dk_at dksX6_go_4 20 rfl rfl)
theorem dX6_go_114 : decode cX6_go 114 = .ok (.goto (-50), 3) := dk_167 255 206 (dk_at dksX6_go_5 0 rfl rfl)
theorem dX6_go_117 : decode cX6_go 117 = .ok (.iinc 3 (-1), 3) := dk_132 3 255 (dk_at dksX6_go_5 3 rfl rfl)
theorem dX6_go_120 : decode cX6_go 120 = .ok (.goto (-94), 3) := dk_167 255 162 (dk_at dksX6_go_5 6 rfl rfl)
theorem dX6_go_123 : decode cX6_go 123 = .ok (.iinc 2 (-1), 3) := dk_132 2 255 (dk_at dksX6_go_5 9 rfl rfl)
theorem dX6_go_126 : decode cX6_go 126 = .ok (.goto (-121), 3) := dk_167 255 135 (dk_at dksX6_go_5 12 rfl rfl)
theorem dX6_go_129 : decode cX6_go 129 = .ok (.return_, 1) := dk_177 (dk_at dksX6_go_5 15 rfl rfl)
abbrev cX6_last : ByteArray := prog_4_method_4_code
def yX6_last : MethodName := ⟨RX6, "last", "(IIIIZ)V"⟩
def dkwX6_last_3 : List UInt8 := [199, 0, 15, 42, 27, 28, 29, 21, 6, 116, 21, 5, 182, 0, 42, 177]
abbrev dktX6_last_3 : List UInt8 := dkwX6_last_3 ++ []
def dkwX6_last_2 : List UInt8 := [112, 154, 0, 38, 42, 27, 28, 29, 21, 6, 21, 5, 182, 0, 42, 21, 6, 158, 0, 22, 42, 180, 0, 27]
abbrev dktX6_last_2 : List UInt8 := dkwX6_last_2 ++ dktX6_last_3
def dkwX6_last_1 : List UInt8 := [162, 0, 9, 132, 6, 1, 167, 255, 243, 21, 6, 21, 6, 104, 21, 4, 160, 0, 47, 21, 6, 27, 100, 5]
abbrev dktX6_last_1 : List UInt8 := dkwX6_last_1 ++ dktX6_last_2
def dkwX6_last_0 : List UInt8 := [21, 4, 155, 0, 11, 27, 29, 100, 5, 112, 153, 0, 4, 177, 3, 54, 6, 21, 6, 21, 6, 104, 21, 4]
abbrev dktX6_last_0 : List UInt8 := dkwX6_last_0 ++ dktX6_last_1
theorem dksX6_last_0 : cX6_last.data.toList.drop 0 = dktX6_last_0 := by decide +kernel
theorem dksX6_last_1 : cX6_last.data.toList.drop 24 = dktX6_last_1 := dk_seg dksX6_last_0 24 rfl rfl
theorem dksX6_last_2 : cX6_last.data.toList.drop 48 = dktX6_last_2 := dk_seg dksX6_last_1 24 rfl rfl
theorem dksX6_last_3 : cX6_last.data.toList.drop 72 = dktX6_last_3 := dk_seg dksX6_last_2 24 rfl rfl
theorem dX6_last_0 : decode cX6_last 0 = .ok (.iload 4, 2) := dk_21 4 (dk_at dksX6_last_0 0 rfl rfl)
theorem dX6_last_2 : decode cX6_last 2 = .ok (.ifCond .lt 11, 3) := dk_155 0 11 (dk_at dksX6_last_0 2 rfl rfl)
theorem dX6_last_5 : decode cX6_last 5 = .ok (.iload_n 1, 1) := dk_27 (dk_at dksX6_last_0 5 rfl rfl)
theorem dX6_last_6 : decode cX6_last 6 = .ok (.iload_n 3, 1) := dk_29 (dk_at dksX6_last_0 6 rfl rfl)
theorem dX6_last_7 : decode cX6_last 7 = .ok (.isub, 1) := dk_100 (dk_at dksX6_last_0 7 rfl rfl)
theorem dX6_last_8 : decode cX6_last 8 = .ok (.iconst 2, 1) := dk_5 (dk_at dksX6_last_0 8 rfl rfl)
theorem dX6_last_9 : decode cX6_last 9 = .ok (.irem, 1) := dk_112 (dk_at dksX6_last_0 9 rfl rfl)
theorem dX6_last_10 : decode cX6_last 10 = .ok (.ifCond .eq 4, 3) := dk_153 0 4 (dk_at dksX6_last_0 10 rfl rfl)
theorem dX6_last_13 : decode cX6_last 13 = .ok (.return_, 1) := dk_177 (dk_at dksX6_last_0 13 rfl rfl)
theorem dX6_last_14 : decode cX6_last 14 = .ok (.iconst 0, 1) := dk_3 (dk_at dksX6_last_0 14 rfl rfl)
theorem dX6_last_15 : decode cX6_last 15 = .ok (.istore 6, 2) := dk_54 6 (dk_at dksX6_last_0 15 rfl rfl)
theorem dX6_last_17 : decode cX6_last 17 = .ok (.iload 6, 2) := dk_21 6 (dk_at dksX6_last_0 17 rfl rfl)
theorem dX6_last_19 : decode cX6_last 19 = .ok (.iload 6, 2) := dk_21 6 (dk_at dksX6_last_0 19 rfl rfl)
theorem dX6_last_21 : decode cX6_last 21 = .ok (.imul, 1) := dk_104 (dk_at dksX6_last_0 21 rfl rfl)
theorem dX6_last_22 : decode cX6_last 22 = .ok (.iload 4, 2) := dk_21 4 (dk_at dksX6_last_0 22 rfl rfl)
theorem dX6_last_24 : decode cX6_last 24 = .ok (.if_icmp .ge 9, 3) := dk_162 0 9 (dk_at dksX6_last_1 0 rfl rfl)
theorem dX6_last_27 : decode cX6_last 27 = .ok (.iinc 6 1, 3) := dk_132 6 1 (dk_at dksX6_last_1 3 rfl rfl)
theorem dX6_last_30 : decode cX6_last 30 = .ok (.goto (-13), 3) := dk_167 255 243 (dk_at dksX6_last_1 6 rfl rfl)
theorem dX6_last_33 : decode cX6_last 33 = .ok (.iload 6, 2) := dk_21 6 (dk_at dksX6_last_1 9 rfl rfl)
theorem dX6_last_35 : decode cX6_last 35 = .ok (.iload 6, 2) := dk_21 6 (dk_at dksX6_last_1 11 rfl rfl)
theorem dX6_last_37 : decode cX6_last 37 = .ok (.imul, 1) := dk_104 (dk_at dksX6_last_1 13 rfl rfl)
theorem dX6_last_38 : decode cX6_last 38 = .ok (.iload 4, 2) := dk_21 4 (dk_at dksX6_last_1 14 rfl rfl)
theorem dX6_last_40 : decode cX6_last 40 = .ok (.if_icmp .ne 47, 3) := dk_160 0 47 (dk_at dksX6_last_1 16 rfl rfl)
theorem dX6_last_43 : decode cX6_last 43 = .ok (.iload 6, 2) := dk_21 6 (dk_at dksX6_last_1 19 rfl rfl)
theorem dX6_last_45 : decode cX6_last 45 = .ok (.iload_n 1, 1) := dk_27 (dk_at dksX6_last_1 21 rfl rfl)
theorem dX6_last_46 : decode cX6_last 46 = .ok (.isub, 1) := dk_100 (dk_at dksX6_last_1 22 rfl rfl)
theorem dX6_last_47 : decode cX6_last 47 = .ok (.iconst 2, 1) := dk_5 (dk_at dksX6_last_1 23 rfl rfl)
theorem dX6_last_48 : decode cX6_last 48 = .ok (.irem, 1) := dk_112 (dk_at dksX6_last_2 0 rfl rfl)
theorem dX6_last_49 : decode cX6_last 49 = .ok (.ifCond .ne 38, 3) := dk_154 0 38 (dk_at dksX6_last_2 1 rfl rfl)
theorem dX6_last_52 : decode cX6_last 52 = .ok (.aload_n 0, 1) := dk_42 (dk_at dksX6_last_2 4 rfl rfl)
theorem dX6_last_53 : decode cX6_last 53 = .ok (.iload_n 1, 1) := dk_27 (dk_at dksX6_last_2 5 rfl rfl)
theorem dX6_last_54 : decode cX6_last 54 = .ok (.iload_n 2, 1) := dk_28 (dk_at dksX6_last_2 6 rfl rfl)
theorem dX6_last_55 : decode cX6_last 55 = .ok (.iload_n 3, 1) := dk_29 (dk_at dksX6_last_2 7 rfl rfl)
theorem dX6_last_56 : decode cX6_last 56 = .ok (.iload 6, 2) := dk_21 6 (dk_at dksX6_last_2 8 rfl rfl)
theorem dX6_last_58 : decode cX6_last 58 = .ok (.iload 5, 2) := dk_21 5 (dk_at dksX6_last_2 10 rfl rfl)
theorem dX6_last_60 : decode cX6_last 60 = .ok (.invokevirtual 42, 3) := dk_182 0 42 (dk_at dksX6_last_2 12 rfl rfl)
theorem dX6_last_63 : decode cX6_last 63 = .ok (.iload 6, 2) := dk_21 6 (dk_at dksX6_last_2 15 rfl rfl)
theorem dX6_last_65 : decode cX6_last 65 = .ok (.ifCond .le 22, 3) := dk_158 0 22 (dk_at dksX6_last_2 17 rfl rfl)
theorem dX6_last_68 : decode cX6_last 68 = .ok (.aload_n 0, 1) := dk_42 (dk_at dksX6_last_2 20 rfl rfl)
theorem dX6_last_69 : decode cX6_last 69 = .ok (.getfield 27, 3) := dk_180 0 27 (dk_at dksX6_last_2 21 rfl rfl)
theorem dX6_last_72 : decode cX6_last 72 = .ok (.ifnonnull 15, 3) := dk_199 0 15 (dk_at dksX6_last_3 0 rfl rfl)
theorem dX6_last_75 : decode cX6_last 75 = .ok (.aload_n 0, 1) := dk_42 (dk_at dksX6_last_3 3 rfl rfl)
theorem dX6_last_76 : decode cX6_last 76 = .ok (.iload_n 1, 1) := dk_27 (dk_at dksX6_last_3 4 rfl rfl)
theorem dX6_last_77 : decode cX6_last 77 = .ok (.iload_n 2, 1) := dk_28 (dk_at dksX6_last_3 5 rfl rfl)
theorem dX6_last_78 : decode cX6_last 78 = .ok (.iload_n 3, 1) := dk_29 (dk_at dksX6_last_3 6 rfl rfl)
theorem dX6_last_79 : decode cX6_last 79 = .ok (.iload 6, 2) := dk_21 6 (dk_at dksX6_last_3 7 rfl rfl)
theorem dX6_last_81 : decode cX6_last 81 = .ok (.ineg, 1) := dk_116 (dk_at dksX6_last_3 9 rfl rfl)
theorem dX6_last_82 : decode cX6_last 82 = .ok (.iload 5, 2) := dk_21 5 (dk_at dksX6_last_3 10 rfl rfl)
theorem dX6_last_84 : decode cX6_last 84 = .ok (.invokevirtual 42, 3) := dk_182 0 42 (dk_at dksX6_last_3 12 rfl rfl)
theorem dX6_last_87 : decode cX6_last 87 = .ok (.return_, 1) := dk_177 (dk_at dksX6_last_3 15 rfl rfl)
abbrev cX6_meet : ByteArray := prog_4_method_2_code
def yX6_meet : MethodName := ⟨RX6, "meet", "(IIIIZ)V"⟩
def dkwX6_meet_3 : List UInt8 := [167, 0, 4, 3, 96, 181, 0, 31, 177]
abbrev dktX6_meet_3 : List UInt8 := dkwX6_meet_3 ++ []
def dkwX6_meet_2 : List UInt8 := [153, 0, 27, 27, 133, 28, 133, 29, 133, 21, 4, 133, 42, 180, 0, 7, 133, 184, 0, 34, 153, 0, 7, 4]
abbrev dktX6_meet_2 : List UInt8 := dkwX6_meet_2 ++ dktX6_meet_3
def dkwX6_meet_1 : List UInt8 := [133, 183, 0, 24, 181, 0, 27, 42, 89, 180, 0, 19, 4, 96, 181, 0, 19, 42, 89, 180, 0, 31, 21, 5]
abbrev dktX6_meet_1 : List UInt8 := dkwX6_meet_1 ++ dktX6_meet_2
def dkwX6_meet_0 : List UInt8 := [42, 180, 0, 19, 42, 180, 0, 13, 160, 0, 23, 42, 187, 0, 22, 89, 27, 133, 28, 133, 29, 133, 21, 4]
abbrev dktX6_meet_0 : List UInt8 := dkwX6_meet_0 ++ dktX6_meet_1
theorem dksX6_meet_0 : cX6_meet.data.toList.drop 0 = dktX6_meet_0 := by decide +kernel
theorem dksX6_meet_1 : cX6_meet.data.toList.drop 24 = dktX6_meet_1 := dk_seg dksX6_meet_0 24 rfl rfl
theorem dksX6_meet_2 : cX6_meet.data.toList.drop 48 = dktX6_meet_2 := dk_seg dksX6_meet_1 24 rfl rfl
theorem dksX6_meet_3 : cX6_meet.data.toList.drop 72 = dktX6_meet_3 := dk_seg dksX6_meet_2 24 rfl rfl
theorem dX6_meet_0 : decode cX6_meet 0 = .ok (.aload_n 0, 1) := dk_42 (dk_at dksX6_meet_0 0 rfl rfl)
theorem dX6_meet_1 : decode cX6_meet 1 = .ok (.getfield 19, 3) := dk_180 0 19 (dk_at dksX6_meet_0 1 rfl rfl)
theorem dX6_meet_4 : decode cX6_meet 4 = .ok (.aload_n 0, 1) := dk_42 (dk_at dksX6_meet_0 4 rfl rfl)
theorem dX6_meet_5 : decode cX6_meet 5 = .ok (.getfield 13, 3) := dk_180 0 13 (dk_at dksX6_meet_0 5 rfl rfl)
theorem dX6_meet_8 : decode cX6_meet 8 = .ok (.if_icmp .ne 23, 3) := dk_160 0 23 (dk_at dksX6_meet_0 8 rfl rfl)
theorem dX6_meet_11 : decode cX6_meet 11 = .ok (.aload_n 0, 1) := dk_42 (dk_at dksX6_meet_0 11 rfl rfl)
theorem dX6_meet_12 : decode cX6_meet 12 = .ok (.new 22, 3) := dk_187 0 22 (dk_at dksX6_meet_0 12 rfl rfl)
theorem dX6_meet_15 : decode cX6_meet 15 = .ok (.dup, 1) := dk_89 (dk_at dksX6_meet_0 15 rfl rfl)
theorem dX6_meet_16 : decode cX6_meet 16 = .ok (.iload_n 1, 1) := dk_27 (dk_at dksX6_meet_0 16 rfl rfl)
theorem dX6_meet_17 : decode cX6_meet 17 = .ok (.i2l, 1) := dk_133 (dk_at dksX6_meet_0 17 rfl rfl)
theorem dX6_meet_18 : decode cX6_meet 18 = .ok (.iload_n 2, 1) := dk_28 (dk_at dksX6_meet_0 18 rfl rfl)
theorem dX6_meet_19 : decode cX6_meet 19 = .ok (.i2l, 1) := dk_133 (dk_at dksX6_meet_0 19 rfl rfl)
theorem dX6_meet_20 : decode cX6_meet 20 = .ok (.iload_n 3, 1) := dk_29 (dk_at dksX6_meet_0 20 rfl rfl)
theorem dX6_meet_21 : decode cX6_meet 21 = .ok (.i2l, 1) := dk_133 (dk_at dksX6_meet_0 21 rfl rfl)
theorem dX6_meet_22 : decode cX6_meet 22 = .ok (.iload 4, 2) := dk_21 4 (dk_at dksX6_meet_0 22 rfl rfl)
theorem dX6_meet_24 : decode cX6_meet 24 = .ok (.i2l, 1) := dk_133 (dk_at dksX6_meet_1 0 rfl rfl)
theorem dX6_meet_25 : decode cX6_meet 25 = .ok (.invokespecial 24, 3) := dk_183 0 24 (dk_at dksX6_meet_1 1 rfl rfl)
theorem dX6_meet_28 : decode cX6_meet 28 = .ok (.putfield 27, 3) := dk_181 0 27 (dk_at dksX6_meet_1 4 rfl rfl)
theorem dX6_meet_31 : decode cX6_meet 31 = .ok (.aload_n 0, 1) := dk_42 (dk_at dksX6_meet_1 7 rfl rfl)
theorem dX6_meet_32 : decode cX6_meet 32 = .ok (.dup, 1) := dk_89 (dk_at dksX6_meet_1 8 rfl rfl)
theorem dX6_meet_33 : decode cX6_meet 33 = .ok (.getfield 19, 3) := dk_180 0 19 (dk_at dksX6_meet_1 9 rfl rfl)
theorem dX6_meet_36 : decode cX6_meet 36 = .ok (.iconst 1, 1) := dk_4 (dk_at dksX6_meet_1 12 rfl rfl)
theorem dX6_meet_37 : decode cX6_meet 37 = .ok (.iadd, 1) := dk_96 (dk_at dksX6_meet_1 13 rfl rfl)
theorem dX6_meet_38 : decode cX6_meet 38 = .ok (.putfield 19, 3) := dk_181 0 19 (dk_at dksX6_meet_1 14 rfl rfl)
theorem dX6_meet_41 : decode cX6_meet 41 = .ok (.aload_n 0, 1) := dk_42 (dk_at dksX6_meet_1 17 rfl rfl)
theorem dX6_meet_42 : decode cX6_meet 42 = .ok (.dup, 1) := dk_89 (dk_at dksX6_meet_1 18 rfl rfl)
theorem dX6_meet_43 : decode cX6_meet 43 = .ok (.getfield 31, 3) := dk_180 0 31 (dk_at dksX6_meet_1 19 rfl rfl)
theorem dX6_meet_46 : decode cX6_meet 46 = .ok (.iload 5, 2) := dk_21 5 (dk_at dksX6_meet_1 22 rfl rfl)
theorem dX6_meet_48 : decode cX6_meet 48 = .ok (.ifCond .eq 27, 3) := dk_153 0 27 (dk_at dksX6_meet_2 0 rfl rfl)
theorem dX6_meet_51 : decode cX6_meet 51 = .ok (.iload_n 1, 1) := dk_27 (dk_at dksX6_meet_2 3 rfl rfl)
theorem dX6_meet_52 : decode cX6_meet 52 = .ok (.i2l, 1) := dk_133 (dk_at dksX6_meet_2 4 rfl rfl)
theorem dX6_meet_53 : decode cX6_meet 53 = .ok (.iload_n 2, 1) := dk_28 (dk_at dksX6_meet_2 5 rfl rfl)
theorem dX6_meet_54 : decode cX6_meet 54 = .ok (.i2l, 1) := dk_133 (dk_at dksX6_meet_2 6 rfl rfl)
theorem dX6_meet_55 : decode cX6_meet 55 = .ok (.iload_n 3, 1) := dk_29 (dk_at dksX6_meet_2 7 rfl rfl)
theorem dX6_meet_56 : decode cX6_meet 56 = .ok (.i2l, 1) := dk_133 (dk_at dksX6_meet_2 8 rfl rfl)
theorem dX6_meet_57 : decode cX6_meet 57 = .ok (.iload 4, 2) := dk_21 4 (dk_at dksX6_meet_2 9 rfl rfl)
theorem dX6_meet_59 : decode cX6_meet 59 = .ok (.i2l, 1) := dk_133 (dk_at dksX6_meet_2 11 rfl rfl)
theorem dX6_meet_60 : decode cX6_meet 60 = .ok (.aload_n 0, 1) := dk_42 (dk_at dksX6_meet_2 12 rfl rfl)
theorem dX6_meet_61 : decode cX6_meet 61 = .ok (.getfield 7, 3) := dk_180 0 7 (dk_at dksX6_meet_2 13 rfl rfl)
theorem dX6_meet_64 : decode cX6_meet 64 = .ok (.i2l, 1) := dk_133 (dk_at dksX6_meet_2 16 rfl rfl)
theorem dX6_meet_65 : decode cX6_meet 65 = .ok (.invokestatic 34, 3) := dk_184 0 34 (dk_at dksX6_meet_2 17 rfl rfl)
theorem dX6_meet_68 : decode cX6_meet 68 = .ok (.ifCond .eq 7, 3) := dk_153 0 7 (dk_at dksX6_meet_2 20 rfl rfl)
theorem dX6_meet_71 : decode cX6_meet 71 = .ok (.iconst 1, 1) := dk_4 (dk_at dksX6_meet_2 23 rfl rfl)
theorem dX6_meet_72 : decode cX6_meet 72 = .ok (.goto 4, 3) := dk_167 0 4 (dk_at dksX6_meet_3 0 rfl rfl)
theorem dX6_meet_75 : decode cX6_meet 75 = .ok (.iconst 0, 1) := dk_3 (dk_at dksX6_meet_3 3 rfl rfl)
theorem dX6_meet_76 : decode cX6_meet 76 = .ok (.iadd, 1) := dk_96 (dk_at dksX6_meet_3 4 rfl rfl)
theorem dX6_meet_77 : decode cX6_meet 77 = .ok (.putfield 31, 3) := dk_181 0 31 (dk_at dksX6_meet_3 5 rfl rfl)
theorem dX6_meet_80 : decode cX6_meet 80 = .ok (.return_, 1) := dk_177 (dk_at dksX6_meet_3 8 rfl rfl)
theorem q36 : (Jvm.Cond.initialized "FourParts$Listing") ∈ lw_all := lw_g (lw_at lw_m1 18 rfl) rfl
theorem q504 : (Jvm.Cond.instantiable "FourParts$Listing" (6 : Nat)) ∈ lw_all := lw_g (lw_at lw_m3 6 rfl) rfl
theorem q506 : (Jvm.Cond.instanceMethod ({ cls := "FourParts$Listing", name := "<init>", desc := "(II)V" } : Jvm.MethodName)) ∈ lw_all := lw_g (lw_at lw_m3 8 rfl) rfl
theorem q507 : (Jvm.Cond.code ({ cls := "FourParts$Listing", name := "<init>", desc := "(II)V" } : Jvm.MethodName) prog_4_method_1_code (4 : Nat) (Option.none : Option Jvm.ClassFile.FieldType)) ∈ lw_all := lw_g (lw_at lw_m3 9 rfl) rfl
theorem q508 : (Jvm.Cond.methodLink "FourParts$Listing" (1 : Nat) ({ cls := "java/lang/Object", name := "<init>", desc := "()V" } : Jvm.MethodName)) ∈ lw_all := lw_g (lw_at lw_m3 10 rfl) rfl
theorem q509 : (Jvm.Cond.fieldLink "FourParts$Listing" (7 : Nat) "FourParts$Listing" "n" "I") ∈ lw_all := lw_g (lw_at lw_m3 11 rfl) rfl
theorem q510 : (Jvm.Cond.fieldLink "FourParts$Listing" (16 : Nat) "FourParts$Listing" "most" "I") ∈ lw_all := lw_g (lw_at lw_m3 12 rfl) rfl
theorem q511 : (Jvm.Cond.fieldLink "FourParts$Listing" (19 : Nat) "FourParts$Listing" "all" "I") ∈ lw_all := lw_g (lw_at lw_m3 13 rfl) rfl
theorem q512 : (Jvm.Cond.fieldLink "FourParts$Listing" (31 : Nat) "FourParts$Listing" "primitive" "I") ∈ lw_all := lw_g (lw_at lw_m3 14 rfl) rfl
theorem q514 : (Jvm.Cond.fieldLink "FourParts$Listing" (13 : Nat) "FourParts$Listing" "wanted" "I") ∈ lw_all := lw_g (lw_at lw_m3 16 rfl) rfl
theorem q515 : (Jvm.Cond.fieldLink "FourParts$Listing" (27 : Nat) "FourParts$Listing" "found" "LFourParts$Four;") ∈ lw_all := lw_g (lw_at lw_m3 17 rfl) rfl
theorem q517 : (Jvm.Cond.laysFinal "FourParts$Listing" "FourParts$Listing" "n" "I") ∈ lw_all := lw_g (lw_at lw_m3 19 rfl) rfl
theorem q518 : (Jvm.Cond.soleField "FourParts$Listing" "n") ∈ lw_all := lw_g (lw_at lw_m3 20 rfl) rfl
theorem q519 : (Jvm.Cond.laysFinal "FourParts$Listing" "FourParts$Listing" "most" "I") ∈ lw_all := lw_g (lw_at lw_m3 21 rfl) rfl
theorem q520 : (Jvm.Cond.soleField "FourParts$Listing" "most") ∈ lw_all := lw_g (lw_at lw_m3 22 rfl) rfl
theorem q521 : (Jvm.Cond.lays "FourParts$Listing" "FourParts$Listing" "all" "I") ∈ lw_all := lw_g (lw_at lw_m3 23 rfl) rfl
theorem q522 : (Jvm.Cond.soleField "FourParts$Listing" "all") ∈ lw_all := lw_g (lw_at lw_m3 24 rfl) rfl
theorem q523 : (Jvm.Cond.lays "FourParts$Listing" "FourParts$Listing" "primitive" "I") ∈ lw_all := lw_g (lw_at lw_m3 25 rfl) rfl
theorem q524 : (Jvm.Cond.soleField "FourParts$Listing" "primitive") ∈ lw_all := lw_g (lw_at lw_m3 26 rfl) rfl
theorem q525 : (Jvm.Cond.laysFinal "FourParts$Listing" "FourParts$Listing" "wanted" "I") ∈ lw_all := lw_g (lw_at lw_m3 27 rfl) rfl
theorem q526 : (Jvm.Cond.soleField "FourParts$Listing" "wanted") ∈ lw_all := lw_g (lw_at lw_m3 28 rfl) rfl
theorem q527 : (Jvm.Cond.lays "FourParts$Listing" "FourParts$Listing" "found" "LFourParts$Four;") ∈ lw_all := lw_g (lw_at lw_m3 29 rfl) rfl
theorem q528 : (Jvm.Cond.soleField "FourParts$Listing" "found") ∈ lw_all := lw_g (lw_at lw_m3 30 rfl) rfl
theorem q529 : (Jvm.Cond.superclass "FourParts$Listing" "java/lang/Object") ∈ lw_all := lw_g (lw_at lw_m3 31 rfl) rfl
theorem q531 : (Jvm.Cond.instanceMethod ({ cls := "FourParts$Listing", name := "go", desc := "(Z)V" } : Jvm.MethodName)) ∈ lw_all := lw_g (lw_at lw_m3 33 rfl) rfl
theorem q532 : (Jvm.Cond.selects "FourParts$Listing" ({ cls := "FourParts$Listing", name := "go", desc := "(Z)V" } : Jvm.MethodName) ({ cls := "FourParts$Listing", name := "go", desc := "(Z)V" } : Jvm.MethodName)) ∈ lw_all := lw_g (lw_at lw_m3 34 rfl) rfl
theorem q533 : (Jvm.Cond.code ({ cls := "FourParts$Listing", name := "go", desc := "(Z)V" } : Jvm.MethodName) prog_4_method_3_code (6 : Nat) (Option.none : Option Jvm.ClassFile.FieldType)) ∈ lw_all := lw_g (lw_at lw_m3 35 rfl) rfl
theorem q534 : (Jvm.Cond.methodLink "FourParts$Listing" (38 : Nat) ({ cls := "FourParts$Listing", name := "last", desc := "(IIIIZ)V" } : Jvm.MethodName)) ∈ lw_all := lw_g (lw_at lw_m3 36 rfl) rfl
theorem q535 : (Jvm.Cond.privateMethod ({ cls := "FourParts$Listing", name := "last", desc := "(IIIIZ)V" } : Jvm.MethodName)) ∈ lw_tbl := lw_at lw_m3 37 rfl
theorem q536 : (Jvm.Cond.instanceMethod ({ cls := "FourParts$Listing", name := "last", desc := "(IIIIZ)V" } : Jvm.MethodName)) ∈ lw_all := lw_g (lw_at lw_m3 38 rfl) rfl
theorem q537 : (Jvm.Cond.code ({ cls := "FourParts$Listing", name := "last", desc := "(IIIIZ)V" } : Jvm.MethodName) prog_4_method_4_code (7 : Nat) (Option.none : Option Jvm.ClassFile.FieldType)) ∈ lw_all := lw_g (lw_at lw_m3 39 rfl) rfl
theorem q538 : (Jvm.Cond.methodLink "FourParts$Listing" (42 : Nat) ({ cls := "FourParts$Listing", name := "meet", desc := "(IIIIZ)V" } : Jvm.MethodName)) ∈ lw_all := lw_g (lw_at lw_m3 40 rfl) rfl
theorem q539 : (Jvm.Cond.privateMethod ({ cls := "FourParts$Listing", name := "meet", desc := "(IIIIZ)V" } : Jvm.MethodName)) ∈ lw_tbl := lw_at lw_m3 41 rfl
theorem q540 : (Jvm.Cond.instanceMethod ({ cls := "FourParts$Listing", name := "meet", desc := "(IIIIZ)V" } : Jvm.MethodName)) ∈ lw_all := lw_g (lw_at lw_m3 42 rfl) rfl
theorem q541 : (Jvm.Cond.code ({ cls := "FourParts$Listing", name := "meet", desc := "(IIIIZ)V" } : Jvm.MethodName) prog_4_method_2_code (6 : Nat) (Option.none : Option Jvm.ClassFile.FieldType)) ∈ lw_all := lw_g (lw_at lw_m3 43 rfl) rfl
theorem q542 : (Jvm.Cond.classLink "FourParts$Listing" (22 : Nat) "FourParts$Four") ∈ lw_all := lw_g (lw_at lw_m3 44 rfl) rfl
theorem q543 : (Jvm.Cond.methodLink "FourParts$Listing" (24 : Nat) ({ cls := "FourParts$Four", name := "<init>", desc := "(JJJJ)V" } : Jvm.MethodName)) ∈ lw_all := lw_g (lw_at lw_m3 45 rfl) rfl
theorem q544 : (Jvm.Cond.methodLink "FourParts$Listing" (34 : Nat) ({ cls := "FourParts$Four", name := "isAlone", desc := "(JJJJJ)Z" } : Jvm.MethodName)) ∈ lw_all := lw_g (lw_at lw_m3 46 rfl) rfl
theorem q824 : (Jvm.Cond.castable "FourParts$Listing" "java/lang/Object") ∈ lw_tbl := lw_at lw_m4 86 rfl
theorem in_X6 : ∀ w ∈ wsX60, w ∈ lw_all := lw_in wsX60 [517, 519, 521, 523, 525, 527] (by decide +kernel) (by decide +kernel)

/-! FourParts$Parts -/
set_option maxRecDepth 100000
def RX7 : String := "FourParts$Parts"
abbrev cX7_square : ByteArray := prog_5_method_2_code
def yX7_square : MethodName := ⟨RX7, "square", "()J"⟩
def dkwX7_square_2 : List UInt8 := [6, 185, 0, 1, 2, 0, 42, 6, 185, 0, 1, 2, 0, 105, 97, 173]
abbrev dktX7_square_2 : List UInt8 := dkwX7_square_2 ++ []
def dkwX7_square_1 : List UInt8 := [185, 0, 1, 2, 0, 105, 97, 42, 5, 185, 0, 1, 2, 0, 42, 5, 185, 0, 1, 2, 0, 105, 97, 42]
abbrev dktX7_square_1 : List UInt8 := dkwX7_square_1 ++ dktX7_square_2
def dkwX7_square_0 : List UInt8 := [42, 3, 185, 0, 1, 2, 0, 42, 3, 185, 0, 1, 2, 0, 105, 42, 4, 185, 0, 1, 2, 0, 42, 4]
abbrev dktX7_square_0 : List UInt8 := dkwX7_square_0 ++ dktX7_square_1
theorem dksX7_square_0 : cX7_square.data.toList.drop 0 = dktX7_square_0 := by decide +kernel
theorem dksX7_square_1 : cX7_square.data.toList.drop 24 = dktX7_square_1 := dk_seg dksX7_square_0 24 rfl rfl
theorem dksX7_square_2 : cX7_square.data.toList.drop 48 = dktX7_square_2 := dk_seg dksX7_square_1 24 rfl rfl
theorem dX7_square_0 : decode cX7_square 0 = .ok (.aload_n 0, 1) := dk_42 (dk_at dksX7_square_0 0 rfl rfl)
theorem dX7_square_1 : decode cX7_square 1 = .ok (.iconst 0, 1) := dk_3 (dk_at dksX7_square_0 1 rfl rfl)
theorem dX7_square_2 : decode cX7_square 2 = .ok (.invokeinterface 1 2, 5) := by decide +kernel
theorem dX7_square_7 : decode cX7_square 7 = .ok (.aload_n 0, 1) := dk_42 (dk_at dksX7_square_0 7 rfl rfl)
theorem dX7_square_8 : decode cX7_square 8 = .ok (.iconst 0, 1) := dk_3 (dk_at dksX7_square_0 8 rfl rfl)
theorem dX7_square_9 : decode cX7_square 9 = .ok (.invokeinterface 1 2, 5) := by decide +kernel
theorem dX7_square_14 : decode cX7_square 14 = .ok (.lmul, 1) := dk_105 (dk_at dksX7_square_0 14 rfl rfl)
theorem dX7_square_15 : decode cX7_square 15 = .ok (.aload_n 0, 1) := dk_42 (dk_at dksX7_square_0 15 rfl rfl)
theorem dX7_square_16 : decode cX7_square 16 = .ok (.iconst 1, 1) := dk_4 (dk_at dksX7_square_0 16 rfl rfl)
theorem dX7_square_17 : decode cX7_square 17 = .ok (.invokeinterface 1 2, 5) := by decide +kernel
theorem dX7_square_22 : decode cX7_square 22 = .ok (.aload_n 0, 1) := dk_42 (dk_at dksX7_square_0 22 rfl rfl)
theorem dX7_square_23 : decode cX7_square 23 = .ok (.iconst 1, 1) := dk_4 (dk_at dksX7_square_0 23 rfl rfl)
theorem dX7_square_24 : decode cX7_square 24 = .ok (.invokeinterface 1 2, 5) := by decide +kernel
theorem dX7_square_29 : decode cX7_square 29 = .ok (.lmul, 1) := dk_105 (dk_at dksX7_square_1 5 rfl rfl)
theorem dX7_square_30 : decode cX7_square 30 = .ok (.ladd, 1) := dk_97 (dk_at dksX7_square_1 6 rfl rfl)
theorem dX7_square_31 : decode cX7_square 31 = .ok (.aload_n 0, 1) := dk_42 (dk_at dksX7_square_1 7 rfl rfl)
theorem dX7_square_32 : decode cX7_square 32 = .ok (.iconst 2, 1) := dk_5 (dk_at dksX7_square_1 8 rfl rfl)
theorem dX7_square_33 : decode cX7_square 33 = .ok (.invokeinterface 1 2, 5) := by decide +kernel
theorem dX7_square_38 : decode cX7_square 38 = .ok (.aload_n 0, 1) := dk_42 (dk_at dksX7_square_1 14 rfl rfl)
theorem dX7_square_39 : decode cX7_square 39 = .ok (.iconst 2, 1) := dk_5 (dk_at dksX7_square_1 15 rfl rfl)
theorem dX7_square_40 : decode cX7_square 40 = .ok (.invokeinterface 1 2, 5) := by decide +kernel
theorem dX7_square_45 : decode cX7_square 45 = .ok (.lmul, 1) := dk_105 (dk_at dksX7_square_1 21 rfl rfl)
theorem dX7_square_46 : decode cX7_square 46 = .ok (.ladd, 1) := dk_97 (dk_at dksX7_square_1 22 rfl rfl)
theorem dX7_square_47 : decode cX7_square 47 = .ok (.aload_n 0, 1) := dk_42 (dk_at dksX7_square_1 23 rfl rfl)
theorem dX7_square_48 : decode cX7_square 48 = .ok (.iconst 3, 1) := dk_6 (dk_at dksX7_square_2 0 rfl rfl)
theorem dX7_square_49 : decode cX7_square 49 = .ok (.invokeinterface 1 2, 5) := by decide +kernel
theorem dX7_square_54 : decode cX7_square 54 = .ok (.aload_n 0, 1) := dk_42 (dk_at dksX7_square_2 6 rfl rfl)
theorem dX7_square_55 : decode cX7_square 55 = .ok (.iconst 3, 1) := dk_6 (dk_at dksX7_square_2 7 rfl rfl)
theorem dX7_square_56 : decode cX7_square 56 = .ok (.invokeinterface 1 2, 5) := by decide +kernel
theorem dX7_square_61 : decode cX7_square 61 = .ok (.lmul, 1) := dk_105 (dk_at dksX7_square_2 13 rfl rfl)
theorem dX7_square_62 : decode cX7_square 62 = .ok (.ladd, 1) := dk_97 (dk_at dksX7_square_2 14 rfl rfl)
theorem dX7_square_63 : decode cX7_square 63 = .ok (.lreturn, 1) := dk_173 (dk_at dksX7_square_2 15 rfl rfl)
abbrev cX7_isNought : ByteArray := prog_5_method_3_code
def yX7_isNought : MethodName := ⟨RX7, "isNought", "()Z"⟩
def dkwX7_isNought_0 : List UInt8 := [42, 185, 0, 7, 1, 0, 9, 148, 154, 0, 7, 4, 167, 0, 4, 3, 172]
abbrev dktX7_isNought_0 : List UInt8 := dkwX7_isNought_0 ++ []
theorem dksX7_isNought_0 : cX7_isNought.data.toList.drop 0 = dktX7_isNought_0 := by decide +kernel
theorem dX7_isNought_0 : decode cX7_isNought 0 = .ok (.aload_n 0, 1) := dk_42 (dk_at dksX7_isNought_0 0 rfl rfl)
theorem dX7_isNought_1 : decode cX7_isNought 1 = .ok (.invokeinterface 7 1, 5) := by decide +kernel
theorem dX7_isNought_6 : decode cX7_isNought 6 = .ok (.lconst 0, 1) := dk_9 (dk_at dksX7_isNought_0 6 rfl rfl)
theorem dX7_isNought_7 : decode cX7_isNought 7 = .ok (.lcmp, 1) := dk_148 (dk_at dksX7_isNought_0 7 rfl rfl)
theorem dX7_isNought_8 : decode cX7_isNought 8 = .ok (.ifCond .ne 7, 3) := dk_154 0 7 (dk_at dksX7_isNought_0 8 rfl rfl)
theorem dX7_isNought_11 : decode cX7_isNought 11 = .ok (.iconst 1, 1) := dk_4 (dk_at dksX7_isNought_0 11 rfl rfl)
theorem dX7_isNought_12 : decode cX7_isNought 12 = .ok (.goto 4, 3) := dk_167 0 4 (dk_at dksX7_isNought_0 12 rfl rfl)
theorem dX7_isNought_15 : decode cX7_isNought 15 = .ok (.iconst 0, 1) := dk_3 (dk_at dksX7_isNought_0 15 rfl rfl)
theorem dX7_isNought_16 : decode cX7_isNought 16 = .ok (.ireturn, 1) := dk_172 (dk_at dksX7_isNought_0 16 rfl rfl)
theorem q250 : (Jvm.Cond.declares ({ cls := "FourParts$Parts", name := "square", desc := "()J" } : Jvm.MethodName)) ∈ lw_tbl := lw_at lw_m1 232 rfl
theorem q252 : (Jvm.Cond.instanceMethod ({ cls := "FourParts$Parts", name := "square", desc := "()J" } : Jvm.MethodName)) ∈ lw_all := lw_g (lw_at lw_m1 234 rfl) rfl
theorem q253 : (Jvm.Cond.publicMethod ({ cls := "FourParts$Parts", name := "square", desc := "()J" } : Jvm.MethodName)) ∈ lw_tbl := lw_at lw_m1 235 rfl
theorem q254 : (Jvm.Cond.code ({ cls := "FourParts$Parts", name := "square", desc := "()J" } : Jvm.MethodName) prog_5_method_2_code (1 : Nat) (Option.some Jvm.ClassFile.FieldType.long)) ∈ lw_all := lw_g (lw_at lw_m1 236 rfl) rfl
theorem q255 : (Jvm.Cond.interfaceEntry "FourParts$Parts" (1 : Nat)) ∈ lw_tbl := lw_at lw_m1 237 rfl
theorem q256 : (Jvm.Cond.methodLink "FourParts$Parts" (1 : Nat) ({ cls := "FourParts$Parts", name := "part", desc := "(I)J" } : Jvm.MethodName)) ∈ lw_all := lw_g (lw_at lw_m1 238 rfl) rfl
theorem q257 : (Jvm.Cond.interfaceMethod "FourParts$Parts" "FourParts$Parts" "part" "(I)J") ∈ lw_tbl := lw_at lw_m1 239 rfl
theorem q258 : (Jvm.Cond.declares ({ cls := "FourParts$Parts", name := "part", desc := "(I)J" } : Jvm.MethodName)) ∈ lw_tbl := lw_at lw_m2 0 rfl
theorem q359 : (Jvm.Cond.declares ({ cls := "FourParts$Parts", name := "isNought", desc := "()Z" } : Jvm.MethodName)) ∈ lw_tbl := lw_at lw_m2 101 rfl
theorem q361 : (Jvm.Cond.instanceMethod ({ cls := "FourParts$Parts", name := "isNought", desc := "()Z" } : Jvm.MethodName)) ∈ lw_all := lw_g (lw_at lw_m2 103 rfl) rfl
theorem q362 : (Jvm.Cond.publicMethod ({ cls := "FourParts$Parts", name := "isNought", desc := "()Z" } : Jvm.MethodName)) ∈ lw_tbl := lw_at lw_m2 104 rfl
theorem q363 : (Jvm.Cond.code ({ cls := "FourParts$Parts", name := "isNought", desc := "()Z" } : Jvm.MethodName) prog_5_method_3_code (1 : Nat) (Option.some Jvm.ClassFile.FieldType.boolean)) ∈ lw_all := lw_g (lw_at lw_m2 105 rfl) rfl
theorem q364 : (Jvm.Cond.interfaceEntry "FourParts$Parts" (7 : Nat)) ∈ lw_tbl := lw_at lw_m2 106 rfl
theorem q365 : (Jvm.Cond.methodLink "FourParts$Parts" (7 : Nat) ({ cls := "FourParts$Parts", name := "square", desc := "()J" } : Jvm.MethodName)) ∈ lw_all := lw_g (lw_at lw_m2 107 rfl) rfl
theorem q366 : (Jvm.Cond.interfaceMethod "FourParts$Parts" "FourParts$Parts" "square" "()J") ∈ lw_tbl := lw_at lw_m2 108 rfl
