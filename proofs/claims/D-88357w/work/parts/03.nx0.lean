/-! FourParts -/
set_option maxRecDepth 100000
def RX0 : String := "FourParts"
def TX0 : u_T := fun k => match k with
  | 0 => ("FourParts", "sheets", "[Ljava/lang/Object;", true)
  | 1 => ("FourParts", "units", "[LFourParts$Four;", true)
  | 2 => ("FourParts", "sides", "[LFourParts$Side;", true)
  | 3 => ("FourParts", "registers", "[LFourParts$Four;", true)
  | _ => ("FourParts", "factors", "[LFourParts$Four;", false)
def tyX0 : Nat → FieldType := fun k => match k with
  | 0 => .array (.object "java/lang/Object")
  | 1 => .array (.object "FourParts$Four")
  | 2 => .array (.object "FourParts$Side")
  | 3 => .array (.object "FourParts$Four")
  | _ => .array (.object "FourParts$Four")
abbrev wsX00 : List Cond := u_ws RX0 TX0 5
theorem nmX0 : ∀ a, a < 5 → ∀ b, b < 5 → a ≠ b → (TX0 a).2.1 ≠ (TX0 b).2.1 := by decide +kernel
theorem tyX0_ok : ∀ k, k < 5 → parseFieldDescriptor (TX0 k).2.2.1 = some (tyX0 k) := by decide +kernel
abbrev cX0_sheet : ByteArray := prog_1_method_4_code
def yX0_sheet : MethodName := ⟨RX0, "sheet", "(III)I"⟩
def dkwX0_sheet_2 : List UInt8 := [28, 29, 184, 0, 21, 83, 3, 172, 58, 4, 16, 243, 172]
abbrev dktX0_sheet_2 : List UInt8 := dkwX0_sheet_2 ++ []
def dkwX0_sheet_1 : List UInt8 := [155, 0, 11, 29, 16, 16, 164, 0, 5, 2, 172, 42, 180, 0, 17, 27, 28, 156, 0, 7, 1, 167, 0, 8]
abbrev dktX0_sheet_1 : List UInt8 := dkwX0_sheet_1 ++ dktX0_sheet_2
def dkwX0_sheet_0 : List UInt8 := [27, 184, 0, 9, 153, 0, 27, 28, 133, 20, 0, 13, 20, 0, 15, 184, 0, 5, 153, 0, 13, 28]
abbrev dktX0_sheet_0 : List UInt8 := dkwX0_sheet_0 ++ dktX0_sheet_1
theorem dksX0_sheet_0 : cX0_sheet.data.toList.drop 0 = dktX0_sheet_0 := by decide +kernel
theorem dksX0_sheet_1 : cX0_sheet.data.toList.drop 22 = dktX0_sheet_1 := dk_seg dksX0_sheet_0 22 rfl rfl
theorem dksX0_sheet_2 : cX0_sheet.data.toList.drop 46 = dktX0_sheet_2 := dk_seg dksX0_sheet_1 24 rfl rfl
theorem dX0_sheet_0 : decode cX0_sheet 0 = .ok (.iload_n 1, 1) := dk_27 (dk_at dksX0_sheet_0 0 rfl rfl)
theorem dX0_sheet_1 : decode cX0_sheet 1 = .ok (.invokestatic 9, 3) := dk_184 0 9 (dk_at dksX0_sheet_0 1 rfl rfl)
theorem dX0_sheet_4 : decode cX0_sheet 4 = .ok (.ifCond .eq 27, 3) := dk_153 0 27 (dk_at dksX0_sheet_0 4 rfl rfl)
theorem dX0_sheet_7 : decode cX0_sheet 7 = .ok (.iload_n 2, 1) := dk_28 (dk_at dksX0_sheet_0 7 rfl rfl)
theorem dX0_sheet_8 : decode cX0_sheet 8 = .ok (.i2l, 1) := dk_133 (dk_at dksX0_sheet_0 8 rfl rfl)
theorem dX0_sheet_9 : decode cX0_sheet 9 = .ok (.ldc2_w 13, 3) := dk_20 0 13 (dk_at dksX0_sheet_0 9 rfl rfl)
theorem dX0_sheet_12 : decode cX0_sheet 12 = .ok (.ldc2_w 15, 3) := dk_20 0 15 (dk_at dksX0_sheet_0 12 rfl rfl)
theorem dX0_sheet_15 : decode cX0_sheet 15 = .ok (.invokestatic 5, 3) := dk_184 0 5 (dk_at dksX0_sheet_0 15 rfl rfl)
theorem dX0_sheet_18 : decode cX0_sheet 18 = .ok (.ifCond .eq 13, 3) := dk_153 0 13 (dk_at dksX0_sheet_0 18 rfl rfl)
theorem dX0_sheet_21 : decode cX0_sheet 21 = .ok (.iload_n 2, 1) := dk_28 (dk_at dksX0_sheet_0 21 rfl rfl)
theorem dX0_sheet_22 : decode cX0_sheet 22 = .ok (.ifCond .lt 11, 3) := dk_155 0 11 (dk_at dksX0_sheet_1 0 rfl rfl)
theorem dX0_sheet_25 : decode cX0_sheet 25 = .ok (.iload_n 3, 1) := dk_29 (dk_at dksX0_sheet_1 3 rfl rfl)
theorem dX0_sheet_26 : decode cX0_sheet 26 = .ok (.bipush 16, 2) := dk_16 16 (dk_at dksX0_sheet_1 4 rfl rfl)
theorem dX0_sheet_28 : decode cX0_sheet 28 = .ok (.if_icmp .le 5, 3) := dk_164 0 5 (dk_at dksX0_sheet_1 6 rfl rfl)
theorem dX0_sheet_31 : decode cX0_sheet 31 = .ok (.iconst (-1), 1) := dk_2 (dk_at dksX0_sheet_1 9 rfl rfl)
theorem dX0_sheet_32 : decode cX0_sheet 32 = .ok (.ireturn, 1) := dk_172 (dk_at dksX0_sheet_1 10 rfl rfl)
theorem dX0_sheet_33 : decode cX0_sheet 33 = .ok (.aload_n 0, 1) := dk_42 (dk_at dksX0_sheet_1 11 rfl rfl)
theorem dX0_sheet_34 : decode cX0_sheet 34 = .ok (.getfield 17, 3) := dk_180 0 17 (dk_at dksX0_sheet_1 12 rfl rfl)
theorem dX0_sheet_37 : decode cX0_sheet 37 = .ok (.iload_n 1, 1) := dk_27 (dk_at dksX0_sheet_1 15 rfl rfl)
theorem dX0_sheet_38 : decode cX0_sheet 38 = .ok (.iload_n 2, 1) := dk_28 (dk_at dksX0_sheet_1 16 rfl rfl)
theorem dX0_sheet_39 : decode cX0_sheet 39 = .ok (.ifCond .ge 7, 3) := dk_156 0 7 (dk_at dksX0_sheet_1 17 rfl rfl)
theorem dX0_sheet_42 : decode cX0_sheet 42 = .ok (.aconst_null, 1) := dk_1 (dk_at dksX0_sheet_1 20 rfl rfl)
theorem dX0_sheet_43 : decode cX0_sheet 43 = .ok (.goto 8, 3) := dk_167 0 8 (dk_at dksX0_sheet_1 21 rfl rfl)
theorem dX0_sheet_46 : decode cX0_sheet 46 = .ok (.iload_n 2, 1) := dk_28 (dk_at dksX0_sheet_2 0 rfl rfl)
theorem dX0_sheet_47 : decode cX0_sheet 47 = .ok (.iload_n 3, 1) := dk_29 (dk_at dksX0_sheet_2 1 rfl rfl)
theorem dX0_sheet_48 : decode cX0_sheet 48 = .ok (.invokestatic 21, 3) := dk_184 0 21 (dk_at dksX0_sheet_2 2 rfl rfl)
theorem dX0_sheet_51 : decode cX0_sheet 51 = .ok (.aastore, 1) := dk_83 (dk_at dksX0_sheet_2 5 rfl rfl)
theorem dX0_sheet_52 : decode cX0_sheet 52 = .ok (.iconst 0, 1) := dk_3 (dk_at dksX0_sheet_2 6 rfl rfl)
theorem dX0_sheet_53 : decode cX0_sheet 53 = .ok (.ireturn, 1) := dk_172 (dk_at dksX0_sheet_2 7 rfl rfl)
theorem dX0_sheet_54 : decode cX0_sheet 54 = .ok (.astore 4, 2) := dk_58 4 (dk_at dksX0_sheet_2 8 rfl rfl)
theorem dX0_sheet_56 : decode cX0_sheet 56 = .ok (.bipush (-13), 2) := dk_16 243 (dk_at dksX0_sheet_2 10 rfl rfl)
theorem dX0_sheet_58 : decode cX0_sheet 58 = .ok (.ireturn, 1) := dk_172 (dk_at dksX0_sheet_2 12 rfl rfl)
abbrev cX0_isSheet : ByteArray := prog_1_method_3_code
def yX0_isSheet : MethodName := ⟨RX0, "isSheet", "(I)Z"⟩
def dkwX0_isSheet_0 : List UInt8 := [26, 133, 9, 20, 0, 3, 184, 0, 5, 172]
abbrev dktX0_isSheet_0 : List UInt8 := dkwX0_isSheet_0 ++ []
theorem dksX0_isSheet_0 : cX0_isSheet.data.toList.drop 0 = dktX0_isSheet_0 := by decide +kernel
theorem dX0_isSheet_0 : decode cX0_isSheet 0 = .ok (.iload_n 0, 1) := dk_26 (dk_at dksX0_isSheet_0 0 rfl rfl)
theorem dX0_isSheet_1 : decode cX0_isSheet 1 = .ok (.i2l, 1) := dk_133 (dk_at dksX0_isSheet_0 1 rfl rfl)
theorem dX0_isSheet_2 : decode cX0_isSheet 2 = .ok (.lconst 0, 1) := dk_9 (dk_at dksX0_isSheet_0 2 rfl rfl)
theorem dX0_isSheet_3 : decode cX0_isSheet 3 = .ok (.ldc2_w 3, 3) := dk_20 0 3 (dk_at dksX0_isSheet_0 3 rfl rfl)
theorem dX0_isSheet_6 : decode cX0_isSheet 6 = .ok (.invokestatic 5, 3) := dk_184 0 5 (dk_at dksX0_isSheet_0 6 rfl rfl)
theorem dX0_isSheet_9 : decode cX0_isSheet 9 = .ok (.ireturn, 1) := dk_172 (dk_at dksX0_isSheet_0 9 rfl rfl)
abbrev cX0_isIn : ByteArray := prog_1_method_1_code
def yX0_isIn : MethodName := ⟨RX0, "isIn", "(JJJ)Z"⟩
def dkwX0_isIn_0 : List UInt8 := [30, 32, 148, 155, 0, 14, 30, 22, 4, 148, 157, 0, 7, 4, 167, 0, 4, 3, 172]
abbrev dktX0_isIn_0 : List UInt8 := dkwX0_isIn_0 ++ []
theorem dksX0_isIn_0 : cX0_isIn.data.toList.drop 0 = dktX0_isIn_0 := by decide +kernel
theorem dX0_isIn_0 : decode cX0_isIn 0 = .ok (.lload_n 0, 1) := dk_30 (dk_at dksX0_isIn_0 0 rfl rfl)
theorem dX0_isIn_1 : decode cX0_isIn 1 = .ok (.lload_n 2, 1) := dk_32 (dk_at dksX0_isIn_0 1 rfl rfl)
theorem dX0_isIn_2 : decode cX0_isIn 2 = .ok (.lcmp, 1) := dk_148 (dk_at dksX0_isIn_0 2 rfl rfl)
theorem dX0_isIn_3 : decode cX0_isIn 3 = .ok (.ifCond .lt 14, 3) := dk_155 0 14 (dk_at dksX0_isIn_0 3 rfl rfl)
theorem dX0_isIn_6 : decode cX0_isIn 6 = .ok (.lload_n 0, 1) := dk_30 (dk_at dksX0_isIn_0 6 rfl rfl)
theorem dX0_isIn_7 : decode cX0_isIn 7 = .ok (.lload 4, 2) := dk_22 4 (dk_at dksX0_isIn_0 7 rfl rfl)
theorem dX0_isIn_9 : decode cX0_isIn 9 = .ok (.lcmp, 1) := dk_148 (dk_at dksX0_isIn_0 9 rfl rfl)
theorem dX0_isIn_10 : decode cX0_isIn 10 = .ok (.ifCond .gt 7, 3) := dk_157 0 7 (dk_at dksX0_isIn_0 10 rfl rfl)
theorem dX0_isIn_13 : decode cX0_isIn 13 = .ok (.iconst 1, 1) := dk_4 (dk_at dksX0_isIn_0 13 rfl rfl)
theorem dX0_isIn_14 : decode cX0_isIn 14 = .ok (.goto 4, 3) := dk_167 0 4 (dk_at dksX0_isIn_0 14 rfl rfl)
theorem dX0_isIn_17 : decode cX0_isIn 17 = .ok (.iconst 0, 1) := dk_3 (dk_at dksX0_isIn_0 17 rfl rfl)
theorem dX0_isIn_18 : decode cX0_isIn 18 = .ok (.ireturn, 1) := dk_172 (dk_at dksX0_isIn_0 18 rfl rfl)
abbrev cX0_rowOf : ByteArray := prog_1_method_2_code
def yX0_rowOf : MethodName := ⟨RX0, "rowOf", "(II)Ljava/lang/Object;"⟩
def dkwX0_rowOf_1 : List UInt8 := [176]
abbrev dktX0_rowOf_1 : List UInt8 := dkwX0_rowOf_1 ++ []
def dkwX0_rowOf_0 : List UInt8 := [26, 154, 0, 9, 27, 188, 8, 167, 0, 17, 26, 4, 160, 0, 9, 27, 188, 10, 167, 0, 6, 27, 188, 11]
abbrev dktX0_rowOf_0 : List UInt8 := dkwX0_rowOf_0 ++ dktX0_rowOf_1
theorem dksX0_rowOf_0 : cX0_rowOf.data.toList.drop 0 = dktX0_rowOf_0 := by decide +kernel
theorem dksX0_rowOf_1 : cX0_rowOf.data.toList.drop 24 = dktX0_rowOf_1 := dk_seg dksX0_rowOf_0 24 rfl rfl
theorem dX0_rowOf_0 : decode cX0_rowOf 0 = .ok (.iload_n 0, 1) := dk_26 (dk_at dksX0_rowOf_0 0 rfl rfl)
theorem dX0_rowOf_1 : decode cX0_rowOf 1 = .ok (.ifCond .ne 9, 3) := dk_154 0 9 (dk_at dksX0_rowOf_0 1 rfl rfl)
theorem dX0_rowOf_4 : decode cX0_rowOf 4 = .ok (.iload_n 1, 1) := dk_27 (dk_at dksX0_rowOf_0 4 rfl rfl)
theorem dX0_rowOf_5 : decode cX0_rowOf 5 = .ok (.newarray .byte, 2) := dk_188_8 (dk_at dksX0_rowOf_0 5 rfl rfl)
theorem dX0_rowOf_7 : decode cX0_rowOf 7 = .ok (.goto 17, 3) := dk_167 0 17 (dk_at dksX0_rowOf_0 7 rfl rfl)
theorem dX0_rowOf_10 : decode cX0_rowOf 10 = .ok (.iload_n 0, 1) := dk_26 (dk_at dksX0_rowOf_0 10 rfl rfl)
theorem dX0_rowOf_11 : decode cX0_rowOf 11 = .ok (.iconst 1, 1) := dk_4 (dk_at dksX0_rowOf_0 11 rfl rfl)
theorem dX0_rowOf_12 : decode cX0_rowOf 12 = .ok (.if_icmp .ne 9, 3) := dk_160 0 9 (dk_at dksX0_rowOf_0 12 rfl rfl)
theorem dX0_rowOf_15 : decode cX0_rowOf 15 = .ok (.iload_n 1, 1) := dk_27 (dk_at dksX0_rowOf_0 15 rfl rfl)
theorem dX0_rowOf_16 : decode cX0_rowOf 16 = .ok (.newarray .int, 2) := dk_188_10 (dk_at dksX0_rowOf_0 16 rfl rfl)
theorem dX0_rowOf_18 : decode cX0_rowOf 18 = .ok (.goto 6, 3) := dk_167 0 6 (dk_at dksX0_rowOf_0 18 rfl rfl)
theorem dX0_rowOf_21 : decode cX0_rowOf 21 = .ok (.iload_n 1, 1) := dk_27 (dk_at dksX0_rowOf_0 21 rfl rfl)
theorem dX0_rowOf_22 : decode cX0_rowOf 22 = .ok (.newarray .long, 2) := dk_188_11 (dk_at dksX0_rowOf_0 22 rfl rfl)
theorem dX0_rowOf_24 : decode cX0_rowOf 24 = .ok (.areturn, 1) := dk_176 (dk_at dksX0_rowOf_1 0 rfl rfl)
abbrev cX0_put : ByteArray := prog_1_method_6_code
def yX0_put : MethodName := ⟨RX0, "put", "(IIJ)I"⟩
def dkwX0_put_1 : List UInt8 := [16, 245, 172, 58, 5, 16, 244, 172]
abbrev dktX0_put_1 : List UInt8 := dkwX0_put_1 ++ []
def dkwX0_put_0 : List UInt8 := [27, 184, 0, 9, 154, 0, 5, 2, 172, 42, 180, 0, 17, 27, 50, 28, 33, 184, 0, 33, 3, 172, 58, 5]
abbrev dktX0_put_0 : List UInt8 := dkwX0_put_0 ++ dktX0_put_1
theorem dksX0_put_0 : cX0_put.data.toList.drop 0 = dktX0_put_0 := by decide +kernel
theorem dksX0_put_1 : cX0_put.data.toList.drop 24 = dktX0_put_1 := dk_seg dksX0_put_0 24 rfl rfl
theorem dX0_put_0 : decode cX0_put 0 = .ok (.iload_n 1, 1) := dk_27 (dk_at dksX0_put_0 0 rfl rfl)
theorem dX0_put_1 : decode cX0_put 1 = .ok (.invokestatic 9, 3) := dk_184 0 9 (dk_at dksX0_put_0 1 rfl rfl)
theorem dX0_put_4 : decode cX0_put 4 = .ok (.ifCond .ne 5, 3) := dk_154 0 5 (dk_at dksX0_put_0 4 rfl rfl)
theorem dX0_put_7 : decode cX0_put 7 = .ok (.iconst (-1), 1) := dk_2 (dk_at dksX0_put_0 7 rfl rfl)
theorem dX0_put_8 : decode cX0_put 8 = .ok (.ireturn, 1) := dk_172 (dk_at dksX0_put_0 8 rfl rfl)
theorem dX0_put_9 : decode cX0_put 9 = .ok (.aload_n 0, 1) := dk_42 (dk_at dksX0_put_0 9 rfl rfl)
theorem dX0_put_10 : decode cX0_put 10 = .ok (.getfield 17, 3) := dk_180 0 17 (dk_at dksX0_put_0 10 rfl rfl)
theorem dX0_put_13 : decode cX0_put 13 = .ok (.iload_n 1, 1) := dk_27 (dk_at dksX0_put_0 13 rfl rfl)
theorem dX0_put_14 : decode cX0_put 14 = .ok (.aaload, 1) := dk_50 (dk_at dksX0_put_0 14 rfl rfl)
theorem dX0_put_15 : decode cX0_put 15 = .ok (.iload_n 2, 1) := dk_28 (dk_at dksX0_put_0 15 rfl rfl)
theorem dX0_put_16 : decode cX0_put 16 = .ok (.lload_n 3, 1) := dk_33 (dk_at dksX0_put_0 16 rfl rfl)
theorem dX0_put_17 : decode cX0_put 17 = .ok (.invokestatic 33, 3) := dk_184 0 33 (dk_at dksX0_put_0 17 rfl rfl)
theorem dX0_put_20 : decode cX0_put 20 = .ok (.iconst 0, 1) := dk_3 (dk_at dksX0_put_0 20 rfl rfl)
theorem dX0_put_21 : decode cX0_put 21 = .ok (.ireturn, 1) := dk_172 (dk_at dksX0_put_0 21 rfl rfl)
theorem dX0_put_22 : decode cX0_put 22 = .ok (.astore 5, 2) := dk_58 5 (dk_at dksX0_put_0 22 rfl rfl)
theorem dX0_put_24 : decode cX0_put 24 = .ok (.bipush (-11), 2) := dk_16 245 (dk_at dksX0_put_1 0 rfl rfl)
theorem dX0_put_26 : decode cX0_put 26 = .ok (.ireturn, 1) := dk_172 (dk_at dksX0_put_1 2 rfl rfl)
theorem dX0_put_27 : decode cX0_put 27 = .ok (.astore 5, 2) := dk_58 5 (dk_at dksX0_put_1 3 rfl rfl)
theorem dX0_put_29 : decode cX0_put 29 = .ok (.bipush (-12), 2) := dk_16 244 (dk_at dksX0_put_1 5 rfl rfl)
theorem dX0_put_31 : decode cX0_put 31 = .ok (.ireturn, 1) := dk_172 (dk_at dksX0_put_1 7 rfl rfl)
abbrev cX0_store : ByteArray := prog_1_method_5_code
def yX0_store : MethodName := ⟨RX0, "store", "(Ljava/lang/Object;IJ)V"⟩
def dkwX0_store_1 : List UInt8 := [153, 0, 14, 42, 192, 0, 29, 27, 32, 136, 79, 167, 0, 10, 42, 192, 0, 31, 27, 32, 80, 177]
abbrev dktX0_store_1 : List UInt8 := dkwX0_store_1 ++ []
def dkwX0_store_0 : List UInt8 := [42, 193, 0, 27, 153, 0, 15, 42, 192, 0, 27, 27, 32, 136, 145, 84, 167, 0, 28, 42, 193, 0, 29]
abbrev dktX0_store_0 : List UInt8 := dkwX0_store_0 ++ dktX0_store_1
theorem dksX0_store_0 : cX0_store.data.toList.drop 0 = dktX0_store_0 := by decide +kernel
theorem dksX0_store_1 : cX0_store.data.toList.drop 23 = dktX0_store_1 := dk_seg dksX0_store_0 23 rfl rfl
theorem dX0_store_0 : decode cX0_store 0 = .ok (.aload_n 0, 1) := dk_42 (dk_at dksX0_store_0 0 rfl rfl)
theorem dX0_store_1 : decode cX0_store 1 = .ok (.instanceof 27, 3) := dk_193 0 27 (dk_at dksX0_store_0 1 rfl rfl)
theorem dX0_store_4 : decode cX0_store 4 = .ok (.ifCond .eq 15, 3) := dk_153 0 15 (dk_at dksX0_store_0 4 rfl rfl)
theorem dX0_store_7 : decode cX0_store 7 = .ok (.aload_n 0, 1) := dk_42 (dk_at dksX0_store_0 7 rfl rfl)
theorem dX0_store_8 : decode cX0_store 8 = .ok (.checkcast 27, 3) := dk_192 0 27 (dk_at dksX0_store_0 8 rfl rfl)
theorem dX0_store_11 : decode cX0_store 11 = .ok (.iload_n 1, 1) := dk_27 (dk_at dksX0_store_0 11 rfl rfl)
theorem dX0_store_12 : decode cX0_store 12 = .ok (.lload_n 2, 1) := dk_32 (dk_at dksX0_store_0 12 rfl rfl)
theorem dX0_store_13 : decode cX0_store 13 = .ok (.l2i, 1) := dk_136 (dk_at dksX0_store_0 13 rfl rfl)
theorem dX0_store_14 : decode cX0_store 14 = .ok (.i2b, 1) := dk_145 (dk_at dksX0_store_0 14 rfl rfl)
theorem dX0_store_15 : decode cX0_store 15 = .ok (.bastore, 1) := dk_84 (dk_at dksX0_store_0 15 rfl rfl)
theorem dX0_store_16 : decode cX0_store 16 = .ok (.goto 28, 3) := dk_167 0 28 (dk_at dksX0_store_0 16 rfl rfl)
theorem dX0_store_19 : decode cX0_store 19 = .ok (.aload_n 0, 1) := dk_42 (dk_at dksX0_store_0 19 rfl rfl)
theorem dX0_store_20 : decode cX0_store 20 = .ok (.instanceof 29, 3) := dk_193 0 29 (dk_at dksX0_store_0 20 rfl rfl)
theorem dX0_store_23 : decode cX0_store 23 = .ok (.ifCond .eq 14, 3) := dk_153 0 14 (dk_at dksX0_store_1 0 rfl rfl)
theorem dX0_store_26 : decode cX0_store 26 = .ok (.aload_n 0, 1) := dk_42 (dk_at dksX0_store_1 3 rfl rfl)
theorem dX0_store_27 : decode cX0_store 27 = .ok (.checkcast 29, 3) := dk_192 0 29 (dk_at dksX0_store_1 4 rfl rfl)
theorem dX0_store_30 : decode cX0_store 30 = .ok (.iload_n 1, 1) := dk_27 (dk_at dksX0_store_1 7 rfl rfl)
theorem dX0_store_31 : decode cX0_store 31 = .ok (.lload_n 2, 1) := dk_32 (dk_at dksX0_store_1 8 rfl rfl)
theorem dX0_store_32 : decode cX0_store 32 = .ok (.l2i, 1) := dk_136 (dk_at dksX0_store_1 9 rfl rfl)
theorem dX0_store_33 : decode cX0_store 33 = .ok (.iastore, 1) := dk_79 (dk_at dksX0_store_1 10 rfl rfl)
theorem dX0_store_34 : decode cX0_store 34 = .ok (.goto 10, 3) := dk_167 0 10 (dk_at dksX0_store_1 11 rfl rfl)
theorem dX0_store_37 : decode cX0_store 37 = .ok (.aload_n 0, 1) := dk_42 (dk_at dksX0_store_1 14 rfl rfl)
theorem dX0_store_38 : decode cX0_store 38 = .ok (.checkcast 31, 3) := dk_192 0 31 (dk_at dksX0_store_1 15 rfl rfl)
theorem dX0_store_41 : decode cX0_store 41 = .ok (.iload_n 1, 1) := dk_27 (dk_at dksX0_store_1 18 rfl rfl)
theorem dX0_store_42 : decode cX0_store 42 = .ok (.lload_n 2, 1) := dk_32 (dk_at dksX0_store_1 19 rfl rfl)
theorem dX0_store_43 : decode cX0_store 43 = .ok (.lastore, 1) := dk_80 (dk_at dksX0_store_1 20 rfl rfl)
theorem dX0_store_44 : decode cX0_store 44 = .ok (.return_, 1) := dk_177 (dk_at dksX0_store_1 21 rfl rfl)
abbrev cX0_copy : ByteArray := prog_1_method_9_code
def yX0_copy : MethodName := ⟨RX0, "copy", "(IIIII)I"⟩
def dkwX0_copy_2 : List UInt8 := [180, 0, 17, 29, 50, 21, 4, 21, 5, 184, 0, 49, 3, 172, 58, 6, 16, 245, 172, 58, 6, 16, 244, 172]
abbrev dktX0_copy_2 : List UInt8 := dkwX0_copy_2 ++ []
def dkwX0_copy_1 : List UInt8 := [180, 0, 17, 29, 50, 184, 0, 45, 153, 0, 6, 16, 242, 172, 42, 180, 0, 17, 27, 50, 28, 42]
abbrev dktX0_copy_1 : List UInt8 := dkwX0_copy_1 ++ dktX0_copy_2
def dkwX0_copy_0 : List UInt8 := [27, 184, 0, 9, 153, 0, 10, 29, 184, 0, 9, 154, 0, 5, 2, 172, 42, 180, 0, 17, 27, 50, 42]
abbrev dktX0_copy_0 : List UInt8 := dkwX0_copy_0 ++ dktX0_copy_1
theorem dksX0_copy_0 : cX0_copy.data.toList.drop 0 = dktX0_copy_0 := by decide +kernel
theorem dksX0_copy_1 : cX0_copy.data.toList.drop 23 = dktX0_copy_1 := dk_seg dksX0_copy_0 23 rfl rfl
theorem dksX0_copy_2 : cX0_copy.data.toList.drop 45 = dktX0_copy_2 := dk_seg dksX0_copy_1 22 rfl rfl
theorem dX0_copy_0 : decode cX0_copy 0 = .ok (.iload_n 1, 1) := dk_27 (dk_at dksX0_copy_0 0 rfl rfl)
theorem dX0_copy_1 : decode cX0_copy 1 = .ok (.invokestatic 9, 3) := dk_184 0 9 (dk_at dksX0_copy_0 1 rfl rfl)
theorem dX0_copy_4 : decode cX0_copy 4 = .ok (.ifCond .eq 10, 3) := dk_153 0 10 (dk_at dksX0_copy_0 4 rfl rfl)
theorem dX0_copy_7 : decode cX0_copy 7 = .ok (.iload_n 3, 1) := dk_29 (dk_at dksX0_copy_0 7 rfl rfl)
theorem dX0_copy_8 : decode cX0_copy 8 = .ok (.invokestatic 9, 3) := dk_184 0 9 (dk_at dksX0_copy_0 8 rfl rfl)
theorem dX0_copy_11 : decode cX0_copy 11 = .ok (.ifCond .ne 5, 3) := dk_154 0 5 (dk_at dksX0_copy_0 11 rfl rfl)
theorem dX0_copy_14 : decode cX0_copy 14 = .ok (.iconst (-1), 1) := dk_2 (dk_at dksX0_copy_0 14 rfl rfl)
theorem dX0_copy_15 : decode cX0_copy 15 = .ok (.ireturn, 1) := dk_172 (dk_at dksX0_copy_0 15 rfl rfl)
theorem dX0_copy_16 : decode cX0_copy 16 = .ok (.aload_n 0, 1) := dk_42 (dk_at dksX0_copy_0 16 rfl rfl)
theorem dX0_copy_17 : decode cX0_copy 17 = .ok (.getfield 17, 3) := dk_180 0 17 (dk_at dksX0_copy_0 17 rfl rfl)
theorem dX0_copy_20 : decode cX0_copy 20 = .ok (.iload_n 1, 1) := dk_27 (dk_at dksX0_copy_0 20 rfl rfl)
theorem dX0_copy_21 : decode cX0_copy 21 = .ok (.aaload, 1) := dk_50 (dk_at dksX0_copy_0 21 rfl rfl)
theorem dX0_copy_22 : decode cX0_copy 22 = .ok (.aload_n 0, 1) := dk_42 (dk_at dksX0_copy_0 22 rfl rfl)
theorem dX0_copy_23 : decode cX0_copy 23 = .ok (.getfield 17, 3) := dk_180 0 17 (dk_at dksX0_copy_1 0 rfl rfl)
theorem dX0_copy_26 : decode cX0_copy 26 = .ok (.iload_n 3, 1) := dk_29 (dk_at dksX0_copy_1 3 rfl rfl)
theorem dX0_copy_27 : decode cX0_copy 27 = .ok (.aaload, 1) := dk_50 (dk_at dksX0_copy_1 4 rfl rfl)
theorem dX0_copy_28 : decode cX0_copy 28 = .ok (.invokestatic 45, 3) := dk_184 0 45 (dk_at dksX0_copy_1 5 rfl rfl)
theorem dX0_copy_31 : decode cX0_copy 31 = .ok (.ifCond .eq 6, 3) := dk_153 0 6 (dk_at dksX0_copy_1 8 rfl rfl)
theorem dX0_copy_34 : decode cX0_copy 34 = .ok (.bipush (-14), 2) := dk_16 242 (dk_at dksX0_copy_1 11 rfl rfl)
theorem dX0_copy_36 : decode cX0_copy 36 = .ok (.ireturn, 1) := dk_172 (dk_at dksX0_copy_1 13 rfl rfl)
theorem dX0_copy_37 : decode cX0_copy 37 = .ok (.aload_n 0, 1) := dk_42 (dk_at dksX0_copy_1 14 rfl rfl)
theorem dX0_copy_38 : decode cX0_copy 38 = .ok (.getfield 17, 3) := dk_180 0 17 (dk_at dksX0_copy_1 15 rfl rfl)
theorem dX0_copy_41 : decode cX0_copy 41 = .ok (.iload_n 1, 1) := dk_27 (dk_at dksX0_copy_1 18 rfl rfl)
theorem dX0_copy_42 : decode cX0_copy 42 = .ok (.aaload, 1) := dk_50 (dk_at dksX0_copy_1 19 rfl rfl)
theorem dX0_copy_43 : decode cX0_copy 43 = .ok (.iload_n 2, 1) := dk_28 (dk_at dksX0_copy_1 20 rfl rfl)
theorem dX0_copy_44 : decode cX0_copy 44 = .ok (.aload_n 0, 1) := dk_42 (dk_at dksX0_copy_1 21 rfl rfl)
theorem dX0_copy_45 : decode cX0_copy 45 = .ok (.getfield 17, 3) := dk_180 0 17 (dk_at dksX0_copy_2 0 rfl rfl)
theorem dX0_copy_48 : decode cX0_copy 48 = .ok (.iload_n 3, 1) := dk_29 (dk_at dksX0_copy_2 3 rfl rfl)
theorem dX0_copy_49 : decode cX0_copy 49 = .ok (.aaload, 1) := dk_50 (dk_at dksX0_copy_2 4 rfl rfl)
theorem dX0_copy_50 : decode cX0_copy 50 = .ok (.iload 4, 2) := dk_21 4 (dk_at dksX0_copy_2 5 rfl rfl)
theorem dX0_copy_52 : decode cX0_copy 52 = .ok (.iload 5, 2) := dk_21 5 (dk_at dksX0_copy_2 7 rfl rfl)
theorem dX0_copy_54 : decode cX0_copy 54 = .ok (.invokestatic 49, 3) := dk_184 0 49 (dk_at dksX0_copy_2 9 rfl rfl)
theorem dX0_copy_57 : decode cX0_copy 57 = .ok (.iconst 0, 1) := dk_3 (dk_at dksX0_copy_2 12 rfl rfl)
theorem dX0_copy_58 : decode cX0_copy 58 = .ok (.ireturn, 1) := dk_172 (dk_at dksX0_copy_2 13 rfl rfl)
theorem dX0_copy_59 : decode cX0_copy 59 = .ok (.astore 6, 2) := dk_58 6 (dk_at dksX0_copy_2 14 rfl rfl)
theorem dX0_copy_61 : decode cX0_copy 61 = .ok (.bipush (-11), 2) := dk_16 245 (dk_at dksX0_copy_2 16 rfl rfl)
theorem dX0_copy_63 : decode cX0_copy 63 = .ok (.ireturn, 1) := dk_172 (dk_at dksX0_copy_2 18 rfl rfl)
theorem dX0_copy_64 : decode cX0_copy 64 = .ok (.astore 6, 2) := dk_58 6 (dk_at dksX0_copy_2 19 rfl rfl)
theorem dX0_copy_66 : decode cX0_copy 66 = .ok (.bipush (-12), 2) := dk_16 244 (dk_at dksX0_copy_2 21 rfl rfl)
theorem dX0_copy_68 : decode cX0_copy 68 = .ok (.ireturn, 1) := dk_172 (dk_at dksX0_copy_2 23 rfl rfl)
abbrev cX0_areUnlike : ByteArray := prog_1_method_8_code
def yX0_areUnlike : MethodName := ⟨RX0, "areUnlike", "(Ljava/lang/Object;Ljava/lang/Object;)Z"⟩
def dkwX0_areUnlike_1 : List UInt8 := [172]
abbrev dktX0_areUnlike_1 : List UInt8 := dkwX0_areUnlike_1 ++ []
def dkwX0_areUnlike_0 : List UInt8 := [42, 198, 0, 22, 43, 198, 0, 18, 42, 184, 0, 41, 43, 184, 0, 41, 159, 0, 7, 4, 167, 0, 4, 3]
abbrev dktX0_areUnlike_0 : List UInt8 := dkwX0_areUnlike_0 ++ dktX0_areUnlike_1
theorem dksX0_areUnlike_0 : cX0_areUnlike.data.toList.drop 0 = dktX0_areUnlike_0 := by decide +kernel
theorem dksX0_areUnlike_1 : cX0_areUnlike.data.toList.drop 24 = dktX0_areUnlike_1 := dk_seg dksX0_areUnlike_0 24 rfl rfl
theorem dX0_areUnlike_0 : decode cX0_areUnlike 0 = .ok (.aload_n 0, 1) := dk_42 (dk_at dksX0_areUnlike_0 0 rfl rfl)
theorem dX0_areUnlike_1 : decode cX0_areUnlike 1 = .ok (.ifnull 22, 3) := dk_198 0 22 (dk_at dksX0_areUnlike_0 1 rfl rfl)
theorem dX0_areUnlike_4 : decode cX0_areUnlike 4 = .ok (.aload_n 1, 1) := dk_43 (dk_at dksX0_areUnlike_0 4 rfl rfl)
theorem dX0_areUnlike_5 : decode cX0_areUnlike 5 = .ok (.ifnull 18, 3) := dk_198 0 18 (dk_at dksX0_areUnlike_0 5 rfl rfl)
theorem dX0_areUnlike_8 : decode cX0_areUnlike 8 = .ok (.aload_n 0, 1) := dk_42 (dk_at dksX0_areUnlike_0 8 rfl rfl)
theorem dX0_areUnlike_9 : decode cX0_areUnlike 9 = .ok (.invokestatic 41, 3) := dk_184 0 41 (dk_at dksX0_areUnlike_0 9 rfl rfl)
theorem dX0_areUnlike_12 : decode cX0_areUnlike 12 = .ok (.aload_n 1, 1) := dk_43 (dk_at dksX0_areUnlike_0 12 rfl rfl)
theorem dX0_areUnlike_13 : decode cX0_areUnlike 13 = .ok (.invokestatic 41, 3) := dk_184 0 41 (dk_at dksX0_areUnlike_0 13 rfl rfl)
theorem dX0_areUnlike_16 : decode cX0_areUnlike 16 = .ok (.if_icmp .eq 7, 3) := dk_159 0 7 (dk_at dksX0_areUnlike_0 16 rfl rfl)
theorem dX0_areUnlike_19 : decode cX0_areUnlike 19 = .ok (.iconst 1, 1) := dk_4 (dk_at dksX0_areUnlike_0 19 rfl rfl)
theorem dX0_areUnlike_20 : decode cX0_areUnlike 20 = .ok (.goto 4, 3) := dk_167 0 4 (dk_at dksX0_areUnlike_0 20 rfl rfl)
theorem dX0_areUnlike_23 : decode cX0_areUnlike 23 = .ok (.iconst 0, 1) := dk_3 (dk_at dksX0_areUnlike_0 23 rfl rfl)
theorem dX0_areUnlike_24 : decode cX0_areUnlike 24 = .ok (.ireturn, 1) := dk_172 (dk_at dksX0_areUnlike_1 0 rfl rfl)
abbrev cX0_sortOf : ByteArray := prog_1_method_7_code
def yX0_sortOf : MethodName := ⟨RX0, "sortOf", "(Ljava/lang/Object;)I"⟩
def dkwX0_sortOf_0 : List UInt8 := [42, 193, 0, 27, 153, 0, 7, 3, 167, 0, 15, 42, 193, 0, 29, 153, 0, 7, 4, 167, 0, 4, 5, 172]
abbrev dktX0_sortOf_0 : List UInt8 := dkwX0_sortOf_0 ++ []
theorem dksX0_sortOf_0 : cX0_sortOf.data.toList.drop 0 = dktX0_sortOf_0 := by decide +kernel
theorem dX0_sortOf_0 : decode cX0_sortOf 0 = .ok (.aload_n 0, 1) := dk_42 (dk_at dksX0_sortOf_0 0 rfl rfl)
theorem dX0_sortOf_1 : decode cX0_sortOf 1 = .ok (.instanceof 27, 3) := dk_193 0 27 (dk_at dksX0_sortOf_0 1 rfl rfl)
theorem dX0_sortOf_4 : decode cX0_sortOf 4 = .ok (.ifCond .eq 7, 3) := dk_153 0 7 (dk_at dksX0_sortOf_0 4 rfl rfl)
theorem dX0_sortOf_7 : decode cX0_sortOf 7 = .ok (.iconst 0, 1) := dk_3 (dk_at dksX0_sortOf_0 7 rfl rfl)
theorem dX0_sortOf_8 : decode cX0_sortOf 8 = .ok (.goto 15, 3) := dk_167 0 15 (dk_at dksX0_sortOf_0 8 rfl rfl)
theorem dX0_sortOf_11 : decode cX0_sortOf 11 = .ok (.aload_n 0, 1) := dk_42 (dk_at dksX0_sortOf_0 11 rfl rfl)
theorem dX0_sortOf_12 : decode cX0_sortOf 12 = .ok (.instanceof 29, 3) := dk_193 0 29 (dk_at dksX0_sortOf_0 12 rfl rfl)
theorem dX0_sortOf_15 : decode cX0_sortOf 15 = .ok (.ifCond .eq 7, 3) := dk_153 0 7 (dk_at dksX0_sortOf_0 15 rfl rfl)
theorem dX0_sortOf_18 : decode cX0_sortOf 18 = .ok (.iconst 1, 1) := dk_4 (dk_at dksX0_sortOf_0 18 rfl rfl)
theorem dX0_sortOf_19 : decode cX0_sortOf 19 = .ok (.goto 4, 3) := dk_167 0 4 (dk_at dksX0_sortOf_0 19 rfl rfl)
theorem dX0_sortOf_22 : decode cX0_sortOf 22 = .ok (.iconst 2, 1) := dk_5 (dk_at dksX0_sortOf_0 22 rfl rfl)
theorem dX0_sortOf_23 : decode cX0_sortOf 23 = .ok (.ireturn, 1) := dk_172 (dk_at dksX0_sortOf_0 23 rfl rfl)
abbrev cX0_init : ByteArray := prog_1_method_13_code
def yX0_init : MethodName := ⟨RX0, "<init>", "()V"⟩
def dkwX0_init_2 : List UInt8 := [181, 0, 110, 42, 184, 0, 114, 181, 0, 117, 42, 3, 189, 0, 57, 181, 0, 119, 177]
abbrev dktX0_init_2 : List UInt8 := dkwX0_init_2 ++ []
def dkwX0_init_1 : List UInt8 := [189, 0, 102, 89, 3, 187, 0, 104, 89, 183, 0, 106, 83, 89, 4, 187, 0, 107, 89, 183, 0, 109, 83]
abbrev dktX0_init_1 : List UInt8 := dkwX0_init_1 ++ dktX0_init_2
def dkwX0_init_0 : List UInt8 := [42, 183, 0, 90, 42, 16, 6, 189, 0, 91, 181, 0, 17, 42, 184, 0, 95, 181, 0, 99, 42, 5]
abbrev dktX0_init_0 : List UInt8 := dkwX0_init_0 ++ dktX0_init_1
theorem dksX0_init_0 : cX0_init.data.toList.drop 0 = dktX0_init_0 := by decide +kernel
theorem dksX0_init_1 : cX0_init.data.toList.drop 22 = dktX0_init_1 := dk_seg dksX0_init_0 22 rfl rfl
theorem dksX0_init_2 : cX0_init.data.toList.drop 45 = dktX0_init_2 := dk_seg dksX0_init_1 23 rfl rfl
theorem dX0_init_0 : decode cX0_init 0 = .ok (.aload_n 0, 1) := dk_42 (dk_at dksX0_init_0 0 rfl rfl)
theorem dX0_init_1 : decode cX0_init 1 = .ok (.invokespecial 90, 3) := dk_183 0 90 (dk_at dksX0_init_0 1 rfl rfl)
theorem dX0_init_4 : decode cX0_init 4 = .ok (.aload_n 0, 1) := dk_42 (dk_at dksX0_init_0 4 rfl rfl)
theorem dX0_init_5 : decode cX0_init 5 = .ok (.bipush 6, 2) := dk_16 6 (dk_at dksX0_init_0 5 rfl rfl)
theorem dX0_init_7 : decode cX0_init 7 = .ok (.anewarray 91, 3) := dk_189 0 91 (dk_at dksX0_init_0 7 rfl rfl)
theorem dX0_init_10 : decode cX0_init 10 = .ok (.putfield 17, 3) := dk_181 0 17 (dk_at dksX0_init_0 10 rfl rfl)
theorem dX0_init_13 : decode cX0_init 13 = .ok (.aload_n 0, 1) := dk_42 (dk_at dksX0_init_0 13 rfl rfl)
theorem dX0_init_14 : decode cX0_init 14 = .ok (.invokestatic 95, 3) := dk_184 0 95 (dk_at dksX0_init_0 14 rfl rfl)
theorem dX0_init_17 : decode cX0_init 17 = .ok (.putfield 99, 3) := dk_181 0 99 (dk_at dksX0_init_0 17 rfl rfl)
theorem dX0_init_20 : decode cX0_init 20 = .ok (.aload_n 0, 1) := dk_42 (dk_at dksX0_init_0 20 rfl rfl)
theorem dX0_init_21 : decode cX0_init 21 = .ok (.iconst 2, 1) := dk_5 (dk_at dksX0_init_0 21 rfl rfl)
theorem dX0_init_22 : decode cX0_init 22 = .ok (.anewarray 102, 3) := dk_189 0 102 (dk_at dksX0_init_1 0 rfl rfl)
theorem dX0_init_25 : decode cX0_init 25 = .ok (.dup, 1) := dk_89 (dk_at dksX0_init_1 3 rfl rfl)
theorem dX0_init_26 : decode cX0_init 26 = .ok (.iconst 0, 1) := dk_3 (dk_at dksX0_init_1 4 rfl rfl)
theorem dX0_init_27 : decode cX0_init 27 = .ok (.new 104, 3) := dk_187 0 104 (dk_at dksX0_init_1 5 rfl rfl)
theorem dX0_init_30 : decode cX0_init 30 = .ok (.dup, 1) := dk_89 (dk_at dksX0_init_1 8 rfl rfl)
theorem dX0_init_31 : decode cX0_init 31 = .ok (.invokespecial 106, 3) := dk_183 0 106 (dk_at dksX0_init_1 9 rfl rfl)
theorem dX0_init_34 : decode cX0_init 34 = .ok (.aastore, 1) := dk_83 (dk_at dksX0_init_1 12 rfl rfl)
theorem dX0_init_35 : decode cX0_init 35 = .ok (.dup, 1) := dk_89 (dk_at dksX0_init_1 13 rfl rfl)
theorem dX0_init_36 : decode cX0_init 36 = .ok (.iconst 1, 1) := dk_4 (dk_at dksX0_init_1 14 rfl rfl)
theorem dX0_init_37 : decode cX0_init 37 = .ok (.new 107, 3) := dk_187 0 107 (dk_at dksX0_init_1 15 rfl rfl)
theorem dX0_init_40 : decode cX0_init 40 = .ok (.dup, 1) := dk_89 (dk_at dksX0_init_1 18 rfl rfl)
theorem dX0_init_41 : decode cX0_init 41 = .ok (.invokespecial 109, 3) := dk_183 0 109 (dk_at dksX0_init_1 19 rfl rfl)
theorem dX0_init_44 : decode cX0_init 44 = .ok (.aastore, 1) := dk_83 (dk_at dksX0_init_1 22 rfl rfl)
theorem dX0_init_45 : decode cX0_init 45 = .ok (.putfield 110, 3) := dk_181 0 110 (dk_at dksX0_init_2 0 rfl rfl)
theorem dX0_init_48 : decode cX0_init 48 = .ok (.aload_n 0, 1) := dk_42 (dk_at dksX0_init_2 3 rfl rfl)
theorem dX0_init_49 : decode cX0_init 49 = .ok (.invokestatic 114, 3) := dk_184 0 114 (dk_at dksX0_init_2 4 rfl rfl)
theorem dX0_init_52 : decode cX0_init 52 = .ok (.putfield 117, 3) := dk_181 0 117 (dk_at dksX0_init_2 7 rfl rfl)
theorem dX0_init_55 : decode cX0_init 55 = .ok (.aload_n 0, 1) := dk_42 (dk_at dksX0_init_2 10 rfl rfl)
theorem dX0_init_56 : decode cX0_init 56 = .ok (.iconst 0, 1) := dk_3 (dk_at dksX0_init_2 11 rfl rfl)
theorem dX0_init_57 : decode cX0_init 57 = .ok (.anewarray 57, 3) := dk_189 0 57 (dk_at dksX0_init_2 12 rfl rfl)
theorem dX0_init_60 : decode cX0_init 60 = .ok (.putfield 119, 3) := dk_181 0 119 (dk_at dksX0_init_2 15 rfl rfl)
theorem dX0_init_63 : decode cX0_init 63 = .ok (.return_, 1) := dk_177 (dk_at dksX0_init_2 18 rfl rfl)
abbrev cX0_units : ByteArray := prog_1_method_10_code
def yX0_units : MethodName := ⟨RX0, "units", "()[LFourParts$Four;"⟩
def dkwX0_units_4 : List UInt8 := [132, 1, 1, 132, 3, 1, 167, 255, 175, 132, 2, 255, 167, 255, 161, 42, 176]
abbrev dktX0_units_4 : List UInt8 := dkwX0_units_4 ++ []
def dkwX0_units_3 : List UInt8 := [184, 0, 69, 153, 0, 7, 4, 167, 0, 4, 3, 54, 5, 21, 5, 153, 0, 11, 42, 27, 25, 4, 83]
abbrev dktX0_units_3 : List UInt8 := dkwX0_units_3 ++ dktX0_units_4
def dkwX0_units_2 : List UInt8 := [112, 100, 133, 183, 0, 59, 58, 4, 25, 4, 182, 0, 63, 20, 0, 67, 148, 154, 0, 15, 25, 4]
abbrev dktX0_units_2 : List UInt8 := dkwX0_units_2 ++ dktX0_units_3
def dkwX0_units_1 : List UInt8 := [187, 0, 57, 89, 28, 133, 5, 29, 16, 25, 108, 100, 133, 5, 29, 8, 108, 8, 112, 100, 133, 5, 29, 8]
abbrev dktX0_units_1 : List UInt8 := dkwX0_units_1 ++ dktX0_units_2
def dkwX0_units_0 : List UInt8 := [16, 24, 189, 0, 57, 75, 3, 60, 5, 61, 28, 16, 254, 161, 0, 95, 3, 62, 29, 16, 125, 162, 0, 81]
abbrev dktX0_units_0 : List UInt8 := dkwX0_units_0 ++ dktX0_units_1
theorem dksX0_units_0 : cX0_units.data.toList.drop 0 = dktX0_units_0 := by decide +kernel
theorem dksX0_units_1 : cX0_units.data.toList.drop 24 = dktX0_units_1 := dk_seg dksX0_units_0 24 rfl rfl
theorem dksX0_units_2 : cX0_units.data.toList.drop 48 = dktX0_units_2 := dk_seg dksX0_units_1 24 rfl rfl
theorem dksX0_units_3 : cX0_units.data.toList.drop 70 = dktX0_units_3 := dk_seg dksX0_units_2 22 rfl rfl
theorem dksX0_units_4 : cX0_units.data.toList.drop 93 = dktX0_units_4 := dk_seg dksX0_units_3 23 rfl rfl
theorem dX0_units_0 : decode cX0_units 0 = .ok (.bipush 24, 2) := dk_16 24 (dk_at dksX0_units_0 0 rfl rfl)
theorem dX0_units_2 : decode cX0_units 2 = .ok (.anewarray 57, 3) := dk_189 0 57 (dk_at dksX0_units_0 2 rfl rfl)
theorem dX0_units_5 : decode cX0_units 5 = .ok (.astore_n 0, 1) := dk_75 (dk_at dksX0_units_0 5 rfl rfl)
theorem dX0_units_6 : decode cX0_units 6 = .ok (.iconst 0, 1) := dk_3 (dk_at dksX0_units_0 6 rfl rfl)
theorem dX0_units_7 : decode cX0_units 7 = .ok (.istore_n 1, 1) := dk_60 (dk_at dksX0_units_0 7 rfl rfl)
theorem dX0_units_8 : decode cX0_units 8 = .ok (.iconst 2, 1) := dk_5 (dk_at dksX0_units_0 8 rfl rfl)
theorem dX0_units_9 : decode cX0_units 9 = .ok (.istore_n 2, 1) := dk_61 (dk_at dksX0_units_0 9 rfl rfl)
theorem dX0_units_10 : decode cX0_units 10 = .ok (.iload_n 2, 1) := dk_28 (dk_at dksX0_units_0 10 rfl rfl)
theorem dX0_units_11 : decode cX0_units 11 = .ok (.bipush (-2), 2) := dk_16 254 (dk_at dksX0_units_0 11 rfl rfl)
theorem dX0_units_13 : decode cX0_units 13 = .ok (.if_icmp .lt 95, 3) := dk_161 0 95 (dk_at dksX0_units_0 13 rfl rfl)
theorem dX0_units_16 : decode cX0_units 16 = .ok (.iconst 0, 1) := dk_3 (dk_at dksX0_units_0 16 rfl rfl)
theorem dX0_units_17 : decode cX0_units 17 = .ok (.istore_n 3, 1) := dk_62 (dk_at dksX0_units_0 17 rfl rfl)
theorem dX0_units_18 : decode cX0_units 18 = .ok (.iload_n 3, 1) := dk_29 (dk_at dksX0_units_0 18 rfl rfl)
theorem dX0_units_19 : decode cX0_units 19 = .ok (.bipush 125, 2) := dk_16 125 (dk_at dksX0_units_0 19 rfl rfl)
theorem dX0_units_21 : decode cX0_units 21 = .ok (.if_icmp .ge 81, 3) := dk_162 0 81 (dk_at dksX0_units_0 21 rfl rfl)
theorem dX0_units_24 : decode cX0_units 24 = .ok (.new 57, 3) := dk_187 0 57 (dk_at dksX0_units_1 0 rfl rfl)
theorem dX0_units_27 : decode cX0_units 27 = .ok (.dup, 1) := dk_89 (dk_at dksX0_units_1 3 rfl rfl)
theorem dX0_units_28 : decode cX0_units 28 = .ok (.iload_n 2, 1) := dk_28 (dk_at dksX0_units_1 4 rfl rfl)
theorem dX0_units_29 : decode cX0_units 29 = .ok (.i2l, 1) := dk_133 (dk_at dksX0_units_1 5 rfl rfl)
theorem dX0_units_30 : decode cX0_units 30 = .ok (.iconst 2, 1) := dk_5 (dk_at dksX0_units_1 6 rfl rfl)
theorem dX0_units_31 : decode cX0_units 31 = .ok (.iload_n 3, 1) := dk_29 (dk_at dksX0_units_1 7 rfl rfl)
theorem dX0_units_32 : decode cX0_units 32 = .ok (.bipush 25, 2) := dk_16 25 (dk_at dksX0_units_1 8 rfl rfl)
theorem dX0_units_34 : decode cX0_units 34 = .ok (.idiv, 1) := dk_108 (dk_at dksX0_units_1 10 rfl rfl)
theorem dX0_units_35 : decode cX0_units 35 = .ok (.isub, 1) := dk_100 (dk_at dksX0_units_1 11 rfl rfl)
theorem dX0_units_36 : decode cX0_units 36 = .ok (.i2l, 1) := dk_133 (dk_at dksX0_units_1 12 rfl rfl)
theorem dX0_units_37 : decode cX0_units 37 = .ok (.iconst 2, 1) := dk_5 (dk_at dksX0_units_1 13 rfl rfl)
theorem dX0_units_38 : decode cX0_units 38 = .ok (.iload_n 3, 1) := dk_29 (dk_at dksX0_units_1 14 rfl rfl)
theorem dX0_units_39 : decode cX0_units 39 = .ok (.iconst 5, 1) := dk_8 (dk_at dksX0_units_1 15 rfl rfl)
theorem dX0_units_40 : decode cX0_units 40 = .ok (.idiv, 1) := dk_108 (dk_at dksX0_units_1 16 rfl rfl)
theorem dX0_units_41 : decode cX0_units 41 = .ok (.iconst 5, 1) := dk_8 (dk_at dksX0_units_1 17 rfl rfl)
theorem dX0_units_42 : decode cX0_units 42 = .ok (.irem, 1) := dk_112 (dk_at dksX0_units_1 18 rfl rfl)
theorem dX0_units_43 : decode cX0_units 43 = .ok (.isub, 1) := dk_100 (dk_at dksX0_units_1 19 rfl rfl)
theorem dX0_units_44 : decode cX0_units 44 = .ok (.i2l, 1) := dk_133 (dk_at dksX0_units_1 20 rfl rfl)
theorem dX0_units_45 : decode cX0_units 45 = .ok (.iconst 2, 1) := dk_5 (dk_at dksX0_units_1 21 rfl rfl)
theorem dX0_units_46 : decode cX0_units 46 = .ok (.iload_n 3, 1) := dk_29 (dk_at dksX0_units_1 22 rfl rfl)
theorem dX0_units_47 : decode cX0_units 47 = .ok (.iconst 5, 1) := dk_8 (dk_at dksX0_units_1 23 rfl rfl)
theorem dX0_units_48 : decode cX0_units 48 = .ok (.irem, 1) := dk_112 (dk_at dksX0_units_2 0 rfl rfl)
theorem dX0_units_49 : decode cX0_units 49 = .ok (.isub, 1) := dk_100 (dk_at dksX0_units_2 1 rfl rfl)
theorem dX0_units_50 : decode cX0_units 50 = .ok (.i2l, 1) := dk_133 (dk_at dksX0_units_2 2 rfl rfl)
theorem dX0_units_51 : decode cX0_units 51 = .ok (.invokespecial 59, 3) := dk_183 0 59 (dk_at dksX0_units_2 3 rfl rfl)
theorem dX0_units_54 : decode cX0_units 54 = .ok (.astore 4, 2) := dk_58 4 (dk_at dksX0_units_2 6 rfl rfl)
theorem dX0_units_56 : decode cX0_units 56 = .ok (.aload 4, 2) := dk_25 4 (dk_at dksX0_units_2 8 rfl rfl)
theorem dX0_units_58 : decode cX0_units 58 = .ok (.invokevirtual 63, 3) := dk_182 0 63 (dk_at dksX0_units_2 10 rfl rfl)
theorem dX0_units_61 : decode cX0_units 61 = .ok (.ldc2_w 67, 3) := dk_20 0 67 (dk_at dksX0_units_2 13 rfl rfl)
theorem dX0_units_64 : decode cX0_units 64 = .ok (.lcmp, 1) := dk_148 (dk_at dksX0_units_2 16 rfl rfl)
theorem dX0_units_65 : decode cX0_units 65 = .ok (.ifCond .ne 15, 3) := dk_154 0 15 (dk_at dksX0_units_2 17 rfl rfl)
theorem dX0_units_68 : decode cX0_units 68 = .ok (.aload 4, 2) := dk_25 4 (dk_at dksX0_units_2 20 rfl rfl)
theorem dX0_units_70 : decode cX0_units 70 = .ok (.invokestatic 69, 3) := dk_184 0 69 (dk_at dksX0_units_3 0 rfl rfl)
theorem dX0_units_73 : decode cX0_units 73 = .ok (.ifCond .eq 7, 3) := dk_153 0 7 (dk_at dksX0_units_3 3 rfl rfl)
theorem dX0_units_76 : decode cX0_units 76 = .ok (.iconst 1, 1) := dk_4 (dk_at dksX0_units_3 6 rfl rfl)
theorem dX0_units_77 : decode cX0_units 77 = .ok (.goto 4, 3) := dk_167 0 4 (dk_at dksX0_units_3 7 rfl rfl)
theorem dX0_units_80 : decode cX0_units 80 = .ok (.iconst 0, 1) := dk_3 (dk_at dksX0_units_3 10 rfl rfl)
theorem dX0_units_81 : decode cX0_units 81 = .ok (.istore 5, 2) := dk_54 5 (dk_at dksX0_units_3 11 rfl rfl)
theorem dX0_units_83 : decode cX0_units 83 = .ok (.iload 5, 2) := dk_21 5 (dk_at dksX0_units_3 13 rfl rfl)
theorem dX0_units_85 : decode cX0_units 85 = .ok (.ifCond .eq 11, 3) := dk_153 0 11 (dk_at dksX0_units_3 15 rfl rfl)
theorem dX0_units_88 : decode cX0_units 88 = .ok (.aload_n 0, 1) := dk_42 (dk_at dksX0_units_3 18 rfl rfl)
theorem dX0_units_89 : decode cX0_units 89 = .ok (.iload_n 1, 1) := dk_27 (dk_at dksX0_units_3 19 rfl rfl)
theorem dX0_units_90 : decode cX0_units 90 = .ok (.aload 4, 2) := dk_25 4 (dk_at dksX0_units_3 20 rfl rfl)
theorem dX0_units_92 : decode cX0_units 92 = .ok (.aastore, 1) := dk_83 (dk_at dksX0_units_3 22 rfl rfl)
theorem dX0_units_93 : decode cX0_units 93 = .ok (.iinc 1 1, 3) := dk_132 1 1 (dk_at dksX0_units_4 0 rfl rfl)
theorem dX0_units_96 : decode cX0_units 96 = .ok (.iinc 3 1, 3) := dk_132 3 1 (dk_at dksX0_units_4 3 rfl rfl)
theorem dX0_units_99 : decode cX0_units 99 = .ok (.goto (-81), 3) := dk_167 255 175 (dk_at dksX0_units_4 6 rfl rfl)
theorem dX0_units_102 : decode cX0_units 102 = .ok (.iinc 2 (-1), 3) := dk_132 2 255 (dk_at dksX0_units_4 9 rfl rfl)
theorem dX0_units_105 : decode cX0_units 105 = .ok (.goto (-95), 3) := dk_167 255 161 (dk_at dksX0_units_4 12 rfl rfl)
theorem dX0_units_108 : decode cX0_units 108 = .ok (.aload_n 0, 1) := dk_42 (dk_at dksX0_units_4 15 rfl rfl)
theorem dX0_units_109 : decode cX0_units 109 = .ok (.areturn, 1) := dk_176 (dk_at dksX0_units_4 16 rfl rfl)
abbrev cX0_isAlike : ByteArray := prog_1_method_11_code
def yX0_isAlike : MethodName := ⟨RX0, "isAlike", "(LFourParts$Four;)Z"⟩
def dkwX0_isAlike_1 : List UInt8 := [180, 0, 83, 131, 129, 10, 127, 9, 148, 154, 0, 7, 4, 167, 0, 4, 3, 172]
abbrev dktX0_isAlike_1 : List UInt8 := dkwX0_isAlike_1 ++ []
def dkwX0_isAlike_0 : List UInt8 := [42, 180, 0, 73, 42, 180, 0, 77, 131, 42, 180, 0, 73, 42, 180, 0, 80, 131, 129, 42, 180, 0, 73, 42]
abbrev dktX0_isAlike_0 : List UInt8 := dkwX0_isAlike_0 ++ dktX0_isAlike_1
theorem dksX0_isAlike_0 : cX0_isAlike.data.toList.drop 0 = dktX0_isAlike_0 := by decide +kernel
theorem dksX0_isAlike_1 : cX0_isAlike.data.toList.drop 24 = dktX0_isAlike_1 := dk_seg dksX0_isAlike_0 24 rfl rfl
theorem dX0_isAlike_0 : decode cX0_isAlike 0 = .ok (.aload_n 0, 1) := dk_42 (dk_at dksX0_isAlike_0 0 rfl rfl)
theorem dX0_isAlike_1 : decode cX0_isAlike 1 = .ok (.getfield 73, 3) := dk_180 0 73 (dk_at dksX0_isAlike_0 1 rfl rfl)
theorem dX0_isAlike_4 : decode cX0_isAlike 4 = .ok (.aload_n 0, 1) := dk_42 (dk_at dksX0_isAlike_0 4 rfl rfl)
theorem dX0_isAlike_5 : decode cX0_isAlike 5 = .ok (.getfield 77, 3) := dk_180 0 77 (dk_at dksX0_isAlike_0 5 rfl rfl)
theorem dX0_isAlike_8 : decode cX0_isAlike 8 = .ok (.lxor, 1) := dk_131 (dk_at dksX0_isAlike_0 8 rfl rfl)
theorem dX0_isAlike_9 : decode cX0_isAlike 9 = .ok (.aload_n 0, 1) := dk_42 (dk_at dksX0_isAlike_0 9 rfl rfl)
theorem dX0_isAlike_10 : decode cX0_isAlike 10 = .ok (.getfield 73, 3) := dk_180 0 73 (dk_at dksX0_isAlike_0 10 rfl rfl)
theorem dX0_isAlike_13 : decode cX0_isAlike 13 = .ok (.aload_n 0, 1) := dk_42 (dk_at dksX0_isAlike_0 13 rfl rfl)
theorem dX0_isAlike_14 : decode cX0_isAlike 14 = .ok (.getfield 80, 3) := dk_180 0 80 (dk_at dksX0_isAlike_0 14 rfl rfl)
theorem dX0_isAlike_17 : decode cX0_isAlike 17 = .ok (.lxor, 1) := dk_131 (dk_at dksX0_isAlike_0 17 rfl rfl)
theorem dX0_isAlike_18 : decode cX0_isAlike 18 = .ok (.lor, 1) := dk_129 (dk_at dksX0_isAlike_0 18 rfl rfl)
theorem dX0_isAlike_19 : decode cX0_isAlike 19 = .ok (.aload_n 0, 1) := dk_42 (dk_at dksX0_isAlike_0 19 rfl rfl)
theorem dX0_isAlike_20 : decode cX0_isAlike 20 = .ok (.getfield 73, 3) := dk_180 0 73 (dk_at dksX0_isAlike_0 20 rfl rfl)
theorem dX0_isAlike_23 : decode cX0_isAlike 23 = .ok (.aload_n 0, 1) := dk_42 (dk_at dksX0_isAlike_0 23 rfl rfl)
theorem dX0_isAlike_24 : decode cX0_isAlike 24 = .ok (.getfield 83, 3) := dk_180 0 83 (dk_at dksX0_isAlike_1 0 rfl rfl)
theorem dX0_isAlike_27 : decode cX0_isAlike 27 = .ok (.lxor, 1) := dk_131 (dk_at dksX0_isAlike_1 3 rfl rfl)
theorem dX0_isAlike_28 : decode cX0_isAlike 28 = .ok (.lor, 1) := dk_129 (dk_at dksX0_isAlike_1 4 rfl rfl)
theorem dX0_isAlike_29 : decode cX0_isAlike 29 = .ok (.lconst 1, 1) := dk_10 (dk_at dksX0_isAlike_1 5 rfl rfl)
theorem dX0_isAlike_30 : decode cX0_isAlike 30 = .ok (.land, 1) := dk_127 (dk_at dksX0_isAlike_1 6 rfl rfl)
theorem dX0_isAlike_31 : decode cX0_isAlike 31 = .ok (.lconst 0, 1) := dk_9 (dk_at dksX0_isAlike_1 7 rfl rfl)
theorem dX0_isAlike_32 : decode cX0_isAlike 32 = .ok (.lcmp, 1) := dk_148 (dk_at dksX0_isAlike_1 8 rfl rfl)
theorem dX0_isAlike_33 : decode cX0_isAlike 33 = .ok (.ifCond .ne 7, 3) := dk_154 0 7 (dk_at dksX0_isAlike_1 9 rfl rfl)
theorem dX0_isAlike_36 : decode cX0_isAlike 36 = .ok (.iconst 1, 1) := dk_4 (dk_at dksX0_isAlike_1 12 rfl rfl)
theorem dX0_isAlike_37 : decode cX0_isAlike 37 = .ok (.goto 4, 3) := dk_167 0 4 (dk_at dksX0_isAlike_1 13 rfl rfl)
theorem dX0_isAlike_40 : decode cX0_isAlike 40 = .ok (.iconst 0, 1) := dk_3 (dk_at dksX0_isAlike_1 16 rfl rfl)
theorem dX0_isAlike_41 : decode cX0_isAlike 41 = .ok (.ireturn, 1) := dk_172 (dk_at dksX0_isAlike_1 17 rfl rfl)
abbrev cX0_registers : ByteArray := prog_1_method_12_code
def yX0_registers : MethodName := ⟨RX0, "registers", "()[LFourParts$Four;"⟩
def dkwX0_registers_1 : List UInt8 := [167, 255, 241, 42, 176]
abbrev dktX0_registers_1 : List UInt8 := dkwX0_registers_1 ++ []
def dkwX0_registers_0 : List UInt8 := [16, 16, 189, 0, 57, 75, 3, 60, 27, 16, 16, 162, 0, 15, 42, 27, 178, 0, 86, 83, 132, 1, 1]
abbrev dktX0_registers_0 : List UInt8 := dkwX0_registers_0 ++ dktX0_registers_1
theorem dksX0_registers_0 : cX0_registers.data.toList.drop 0 = dktX0_registers_0 := by decide +kernel
theorem dksX0_registers_1 : cX0_registers.data.toList.drop 23 = dktX0_registers_1 := dk_seg dksX0_registers_0 23 rfl rfl
theorem dX0_registers_0 : decode cX0_registers 0 = .ok (.bipush 16, 2) := dk_16 16 (dk_at dksX0_registers_0 0 rfl rfl)
theorem dX0_registers_2 : decode cX0_registers 2 = .ok (.anewarray 57, 3) := dk_189 0 57 (dk_at dksX0_registers_0 2 rfl rfl)
theorem dX0_registers_5 : decode cX0_registers 5 = .ok (.astore_n 0, 1) := dk_75 (dk_at dksX0_registers_0 5 rfl rfl)
theorem dX0_registers_6 : decode cX0_registers 6 = .ok (.iconst 0, 1) := dk_3 (dk_at dksX0_registers_0 6 rfl rfl)
theorem dX0_registers_7 : decode cX0_registers 7 = .ok (.istore_n 1, 1) := dk_60 (dk_at dksX0_registers_0 7 rfl rfl)
theorem dX0_registers_8 : decode cX0_registers 8 = .ok (.iload_n 1, 1) := dk_27 (dk_at dksX0_registers_0 8 rfl rfl)
theorem dX0_registers_9 : decode cX0_registers 9 = .ok (.bipush 16, 2) := dk_16 16 (dk_at dksX0_registers_0 9 rfl rfl)
theorem dX0_registers_11 : decode cX0_registers 11 = .ok (.if_icmp .ge 15, 3) := dk_162 0 15 (dk_at dksX0_registers_0 11 rfl rfl)
theorem dX0_registers_14 : decode cX0_registers 14 = .ok (.aload_n 0, 1) := dk_42 (dk_at dksX0_registers_0 14 rfl rfl)
theorem dX0_registers_15 : decode cX0_registers 15 = .ok (.iload_n 1, 1) := dk_27 (dk_at dksX0_registers_0 15 rfl rfl)
theorem dX0_registers_16 : decode cX0_registers 16 = .ok (.getstatic 86, 3) := dk_178 0 86 (dk_at dksX0_registers_0 16 rfl rfl)
theorem dX0_registers_19 : decode cX0_registers 19 = .ok (.aastore, 1) := dk_83 (dk_at dksX0_registers_0 19 rfl rfl)
theorem dX0_registers_20 : decode cX0_registers 20 = .ok (.iinc 1 1, 3) := dk_132 1 1 (dk_at dksX0_registers_0 20 rfl rfl)
theorem dX0_registers_23 : decode cX0_registers 23 = .ok (.goto (-15), 3) := dk_167 255 241 (dk_at dksX0_registers_1 0 rfl rfl)
theorem dX0_registers_26 : decode cX0_registers 26 = .ok (.aload_n 0, 1) := dk_42 (dk_at dksX0_registers_1 3 rfl rfl)
theorem dX0_registers_27 : decode cX0_registers 27 = .ok (.areturn, 1) := dk_176 (dk_at dksX0_registers_1 4 rfl rfl)
abbrev cX0_read : ByteArray := prog_1_method_16_code
def yX0_read : MethodName := ⟨RX0, "read", "(III)I"⟩
def dkwX0_read_5 : List UInt8 := [182, 0, 137, 156, 0, 8, 16, 240, 167, 0, 4, 3, 172]
abbrev dktX0_read_5 : List UInt8 := dkwX0_read_5 ++ []
def dkwX0_read_4 : List UInt8 := [16, 245, 172, 58, 5, 16, 244, 172, 25, 4, 184, 0, 69, 154, 0, 6, 16, 241, 172, 42, 27, 25, 4]
abbrev dktX0_read_4 : List UInt8 := dkwX0_read_4 ++ dktX0_read_5
def dkwX0_read_3 : List UInt8 := [180, 0, 17, 28, 50, 29, 5, 96, 184, 0, 131, 22, 5, 183, 0, 59, 58, 4, 167, 0, 13, 58, 5]
abbrev dktX0_read_3 : List UInt8 := dkwX0_read_3 ++ dktX0_read_4
def dkwX0_read_2 : List UInt8 := [89, 42, 180, 0, 17, 28, 50, 29, 184, 0, 131, 42, 180, 0, 17, 28, 50, 29, 4, 96, 184, 0, 131, 42]
abbrev dktX0_read_2 : List UInt8 := dkwX0_read_2 ++ dktX0_read_3
def dkwX0_read_1 : List UInt8 := [155, 0, 9, 29, 16, 16, 164, 0, 7, 2, 167, 0, 6, 29, 6, 96, 184, 0, 131, 55, 5, 187, 0, 57]
abbrev dktX0_read_1 : List UInt8 := dkwX0_read_1 ++ dktX0_read_2
def dkwX0_read_0 : List UInt8 := [27, 184, 0, 128, 153, 0, 10, 28, 184, 0, 9, 154, 0, 5, 2, 172, 42, 180, 0, 17, 28, 50, 29]
abbrev dktX0_read_0 : List UInt8 := dkwX0_read_0 ++ dktX0_read_1
theorem dksX0_read_0 : cX0_read.data.toList.drop 0 = dktX0_read_0 := by decide +kernel
theorem dksX0_read_1 : cX0_read.data.toList.drop 23 = dktX0_read_1 := dk_seg dksX0_read_0 23 rfl rfl
theorem dksX0_read_2 : cX0_read.data.toList.drop 47 = dktX0_read_2 := dk_seg dksX0_read_1 24 rfl rfl
theorem dksX0_read_3 : cX0_read.data.toList.drop 71 = dktX0_read_3 := dk_seg dksX0_read_2 24 rfl rfl
theorem dksX0_read_4 : cX0_read.data.toList.drop 94 = dktX0_read_4 := dk_seg dksX0_read_3 23 rfl rfl
theorem dksX0_read_5 : cX0_read.data.toList.drop 117 = dktX0_read_5 := dk_seg dksX0_read_4 23 rfl rfl
theorem dX0_read_0 : decode cX0_read 0 = .ok (.iload_n 1, 1) := dk_27 (dk_at dksX0_read_0 0 rfl rfl)
theorem dX0_read_1 : decode cX0_read 1 = .ok (.invokestatic 128, 3) := dk_184 0 128 (dk_at dksX0_read_0 1 rfl rfl)
theorem dX0_read_4 : decode cX0_read 4 = .ok (.ifCond .eq 10, 3) := dk_153 0 10 (dk_at dksX0_read_0 4 rfl rfl)
theorem dX0_read_7 : decode cX0_read 7 = .ok (.iload_n 2, 1) := dk_28 (dk_at dksX0_read_0 7 rfl rfl)
theorem dX0_read_8 : decode cX0_read 8 = .ok (.invokestatic 9, 3) := dk_184 0 9 (dk_at dksX0_read_0 8 rfl rfl)
theorem dX0_read_11 : decode cX0_read 11 = .ok (.ifCond .ne 5, 3) := dk_154 0 5 (dk_at dksX0_read_0 11 rfl rfl)
theorem dX0_read_14 : decode cX0_read 14 = .ok (.iconst (-1), 1) := dk_2 (dk_at dksX0_read_0 14 rfl rfl)
theorem dX0_read_15 : decode cX0_read 15 = .ok (.ireturn, 1) := dk_172 (dk_at dksX0_read_0 15 rfl rfl)
theorem dX0_read_16 : decode cX0_read 16 = .ok (.aload_n 0, 1) := dk_42 (dk_at dksX0_read_0 16 rfl rfl)
theorem dX0_read_17 : decode cX0_read 17 = .ok (.getfield 17, 3) := dk_180 0 17 (dk_at dksX0_read_0 17 rfl rfl)
theorem dX0_read_20 : decode cX0_read 20 = .ok (.iload_n 2, 1) := dk_28 (dk_at dksX0_read_0 20 rfl rfl)
theorem dX0_read_21 : decode cX0_read 21 = .ok (.aaload, 1) := dk_50 (dk_at dksX0_read_0 21 rfl rfl)
theorem dX0_read_22 : decode cX0_read 22 = .ok (.iload_n 3, 1) := dk_29 (dk_at dksX0_read_0 22 rfl rfl)
theorem dX0_read_23 : decode cX0_read 23 = .ok (.ifCond .lt 9, 3) := dk_155 0 9 (dk_at dksX0_read_1 0 rfl rfl)
theorem dX0_read_26 : decode cX0_read 26 = .ok (.iload_n 3, 1) := dk_29 (dk_at dksX0_read_1 3 rfl rfl)
theorem dX0_read_27 : decode cX0_read 27 = .ok (.bipush 16, 2) := dk_16 16 (dk_at dksX0_read_1 4 rfl rfl)
theorem dX0_read_29 : decode cX0_read 29 = .ok (.if_icmp .le 7, 3) := dk_164 0 7 (dk_at dksX0_read_1 6 rfl rfl)
theorem dX0_read_32 : decode cX0_read 32 = .ok (.iconst (-1), 1) := dk_2 (dk_at dksX0_read_1 9 rfl rfl)
theorem dX0_read_33 : decode cX0_read 33 = .ok (.goto 6, 3) := dk_167 0 6 (dk_at dksX0_read_1 10 rfl rfl)
theorem dX0_read_36 : decode cX0_read 36 = .ok (.iload_n 3, 1) := dk_29 (dk_at dksX0_read_1 13 rfl rfl)
theorem dX0_read_37 : decode cX0_read 37 = .ok (.iconst 3, 1) := dk_6 (dk_at dksX0_read_1 14 rfl rfl)
theorem dX0_read_38 : decode cX0_read 38 = .ok (.iadd, 1) := dk_96 (dk_at dksX0_read_1 15 rfl rfl)
theorem dX0_read_39 : decode cX0_read 39 = .ok (.invokestatic 131, 3) := dk_184 0 131 (dk_at dksX0_read_1 16 rfl rfl)
theorem dX0_read_42 : decode cX0_read 42 = .ok (.lstore 5, 2) := dk_55 5 (dk_at dksX0_read_1 19 rfl rfl)
theorem dX0_read_44 : decode cX0_read 44 = .ok (.new 57, 3) := dk_187 0 57 (dk_at dksX0_read_1 21 rfl rfl)
theorem dX0_read_47 : decode cX0_read 47 = .ok (.dup, 1) := dk_89 (dk_at dksX0_read_2 0 rfl rfl)
theorem dX0_read_48 : decode cX0_read 48 = .ok (.aload_n 0, 1) := dk_42 (dk_at dksX0_read_2 1 rfl rfl)
theorem dX0_read_49 : decode cX0_read 49 = .ok (.getfield 17, 3) := dk_180 0 17 (dk_at dksX0_read_2 2 rfl rfl)
theorem dX0_read_52 : decode cX0_read 52 = .ok (.iload_n 2, 1) := dk_28 (dk_at dksX0_read_2 5 rfl rfl)
theorem dX0_read_53 : decode cX0_read 53 = .ok (.aaload, 1) := dk_50 (dk_at dksX0_read_2 6 rfl rfl)
theorem dX0_read_54 : decode cX0_read 54 = .ok (.iload_n 3, 1) := dk_29 (dk_at dksX0_read_2 7 rfl rfl)
theorem dX0_read_55 : decode cX0_read 55 = .ok (.invokestatic 131, 3) := dk_184 0 131 (dk_at dksX0_read_2 8 rfl rfl)
theorem dX0_read_58 : decode cX0_read 58 = .ok (.aload_n 0, 1) := dk_42 (dk_at dksX0_read_2 11 rfl rfl)
theorem dX0_read_59 : decode cX0_read 59 = .ok (.getfield 17, 3) := dk_180 0 17 (dk_at dksX0_read_2 12 rfl rfl)
theorem dX0_read_62 : decode cX0_read 62 = .ok (.iload_n 2, 1) := dk_28 (dk_at dksX0_read_2 15 rfl rfl)
theorem dX0_read_63 : decode cX0_read 63 = .ok (.aaload, 1) := dk_50 (dk_at dksX0_read_2 16 rfl rfl)
theorem dX0_read_64 : decode cX0_read 64 = .ok (.iload_n 3, 1) := dk_29 (dk_at dksX0_read_2 17 rfl rfl)
theorem dX0_read_65 : decode cX0_read 65 = .ok (.iconst 1, 1) := dk_4 (dk_at dksX0_read_2 18 rfl rfl)
theorem dX0_read_66 : decode cX0_read 66 = .ok (.iadd, 1) := dk_96 (dk_at dksX0_read_2 19 rfl rfl)
theorem dX0_read_67 : decode cX0_read 67 = .ok (.invokestatic 131, 3) := dk_184 0 131 (dk_at dksX0_read_2 20 rfl rfl)
theorem dX0_read_70 : decode cX0_read 70 = .ok (.aload_n 0, 1) := dk_42 (dk_at dksX0_read_2 23 rfl rfl)
theorem dX0_read_71 : decode cX0_read 71 = .ok (.getfield 17, 3) := dk_180 0 17 (dk_at dksX0_read_3 0 rfl rfl)
theorem dX0_read_74 : decode cX0_read 74 = .ok (.iload_n 2, 1) := dk_28 (dk_at dksX0_read_3 3 rfl rfl)
theorem dX0_read_75 : decode cX0_read 75 = .ok (.aaload, 1) := dk_50 (dk_at dksX0_read_3 4 rfl rfl)
theorem dX0_read_76 : decode cX0_read 76 = .ok (.iload_n 3, 1) := dk_29 (dk_at dksX0_read_3 5 rfl rfl)
theorem dX0_read_77 : decode cX0_read 77 = .ok (.iconst 2, 1) := dk_5 (dk_at dksX0_read_3 6 rfl rfl)
theorem dX0_read_78 : decode cX0_read 78 = .ok (.iadd, 1) := dk_96 (dk_at dksX0_read_3 7 rfl rfl)
theorem dX0_read_79 : decode cX0_read 79 = .ok (.invokestatic 131, 3) := dk_184 0 131 (dk_at dksX0_read_3 8 rfl rfl)
theorem dX0_read_82 : decode cX0_read 82 = .ok (.lload 5, 2) := dk_22 5 (dk_at dksX0_read_3 11 rfl rfl)
theorem dX0_read_84 : decode cX0_read 84 = .ok (.invokespecial 59, 3) := dk_183 0 59 (dk_at dksX0_read_3 13 rfl rfl)
theorem dX0_read_87 : decode cX0_read 87 = .ok (.astore 4, 2) := dk_58 4 (dk_at dksX0_read_3 16 rfl rfl)
theorem dX0_read_89 : decode cX0_read 89 = .ok (.goto 13, 3) := dk_167 0 13 (dk_at dksX0_read_3 18 rfl rfl)
theorem dX0_read_92 : decode cX0_read 92 = .ok (.astore 5, 2) := dk_58 5 (dk_at dksX0_read_3 21 rfl rfl)
theorem dX0_read_94 : decode cX0_read 94 = .ok (.bipush (-11), 2) := dk_16 245 (dk_at dksX0_read_4 0 rfl rfl)
theorem dX0_read_96 : decode cX0_read 96 = .ok (.ireturn, 1) := dk_172 (dk_at dksX0_read_4 2 rfl rfl)
theorem dX0_read_97 : decode cX0_read 97 = .ok (.astore 5, 2) := dk_58 5 (dk_at dksX0_read_4 3 rfl rfl)
theorem dX0_read_99 : decode cX0_read 99 = .ok (.bipush (-12), 2) := dk_16 244 (dk_at dksX0_read_4 5 rfl rfl)
theorem dX0_read_101 : decode cX0_read 101 = .ok (.ireturn, 1) := dk_172 (dk_at dksX0_read_4 7 rfl rfl)
theorem dX0_read_102 : decode cX0_read 102 = .ok (.aload 4, 2) := dk_25 4 (dk_at dksX0_read_4 8 rfl rfl)
theorem dX0_read_104 : decode cX0_read 104 = .ok (.invokestatic 69, 3) := dk_184 0 69 (dk_at dksX0_read_4 10 rfl rfl)
theorem dX0_read_107 : decode cX0_read 107 = .ok (.ifCond .ne 6, 3) := dk_154 0 6 (dk_at dksX0_read_4 13 rfl rfl)
theorem dX0_read_110 : decode cX0_read 110 = .ok (.bipush (-15), 2) := dk_16 241 (dk_at dksX0_read_4 16 rfl rfl)
theorem dX0_read_112 : decode cX0_read 112 = .ok (.ireturn, 1) := dk_172 (dk_at dksX0_read_4 18 rfl rfl)
theorem dX0_read_113 : decode cX0_read 113 = .ok (.aload_n 0, 1) := dk_42 (dk_at dksX0_read_4 19 rfl rfl)
theorem dX0_read_114 : decode cX0_read 114 = .ok (.iload_n 1, 1) := dk_27 (dk_at dksX0_read_4 20 rfl rfl)
theorem dX0_read_115 : decode cX0_read 115 = .ok (.aload 4, 2) := dk_25 4 (dk_at dksX0_read_4 21 rfl rfl)
theorem dX0_read_117 : decode cX0_read 117 = .ok (.invokevirtual 137, 3) := dk_182 0 137 (dk_at dksX0_read_5 0 rfl rfl)
theorem dX0_read_120 : decode cX0_read 120 = .ok (.ifCond .ge 8, 3) := dk_156 0 8 (dk_at dksX0_read_5 3 rfl rfl)
theorem dX0_read_123 : decode cX0_read 123 = .ok (.bipush (-16), 2) := dk_16 240 (dk_at dksX0_read_5 6 rfl rfl)
theorem dX0_read_125 : decode cX0_read 125 = .ok (.goto 4, 3) := dk_167 0 4 (dk_at dksX0_read_5 8 rfl rfl)
theorem dX0_read_128 : decode cX0_read 128 = .ok (.iconst 0, 1) := dk_3 (dk_at dksX0_read_5 11 rfl rfl)
theorem dX0_read_129 : decode cX0_read 129 = .ok (.ireturn, 1) := dk_172 (dk_at dksX0_read_5 12 rfl rfl)
abbrev cX0_isRegister : ByteArray := prog_1_method_14_code
def yX0_isRegister : MethodName := ⟨RX0, "isRegister", "(I)Z"⟩
def dkwX0_isRegister_0 : List UInt8 := [26, 133, 9, 20, 0, 122, 184, 0, 5, 172]
abbrev dktX0_isRegister_0 : List UInt8 := dkwX0_isRegister_0 ++ []
theorem dksX0_isRegister_0 : cX0_isRegister.data.toList.drop 0 = dktX0_isRegister_0 := by decide +kernel
theorem dX0_isRegister_0 : decode cX0_isRegister 0 = .ok (.iload_n 0, 1) := dk_26 (dk_at dksX0_isRegister_0 0 rfl rfl)
theorem dX0_isRegister_1 : decode cX0_isRegister 1 = .ok (.i2l, 1) := dk_133 (dk_at dksX0_isRegister_0 1 rfl rfl)
theorem dX0_isRegister_2 : decode cX0_isRegister 2 = .ok (.lconst 0, 1) := dk_9 (dk_at dksX0_isRegister_0 2 rfl rfl)
theorem dX0_isRegister_3 : decode cX0_isRegister 3 = .ok (.ldc2_w 122, 3) := dk_20 0 122 (dk_at dksX0_isRegister_0 3 rfl rfl)
theorem dX0_isRegister_6 : decode cX0_isRegister 6 = .ok (.invokestatic 5, 3) := dk_184 0 5 (dk_at dksX0_isRegister_0 6 rfl rfl)
theorem dX0_isRegister_9 : decode cX0_isRegister 9 = .ok (.ireturn, 1) := dk_172 (dk_at dksX0_isRegister_0 9 rfl rfl)
abbrev cX0_hold : ByteArray := prog_1_method_15_code
def yX0_hold : MethodName := ⟨RX0, "hold", "(ILFourParts$Four;)I"⟩
def dkwX0_hold_0 : List UInt8 := [44, 182, 0, 124, 154, 0, 6, 16, 253, 172, 42, 180, 0, 117, 27, 44, 83, 3, 172]
abbrev dktX0_hold_0 : List UInt8 := dkwX0_hold_0 ++ []
theorem dksX0_hold_0 : cX0_hold.data.toList.drop 0 = dktX0_hold_0 := by decide +kernel
theorem dX0_hold_0 : decode cX0_hold 0 = .ok (.aload_n 2, 1) := dk_44 (dk_at dksX0_hold_0 0 rfl rfl)
theorem dX0_hold_1 : decode cX0_hold 1 = .ok (.invokevirtual 124, 3) := dk_182 0 124 (dk_at dksX0_hold_0 1 rfl rfl)
theorem dX0_hold_4 : decode cX0_hold 4 = .ok (.ifCond .ne 6, 3) := dk_154 0 6 (dk_at dksX0_hold_0 4 rfl rfl)
theorem dX0_hold_7 : decode cX0_hold 7 = .ok (.bipush (-3), 2) := dk_16 253 (dk_at dksX0_hold_0 7 rfl rfl)
theorem dX0_hold_9 : decode cX0_hold 9 = .ok (.ireturn, 1) := dk_172 (dk_at dksX0_hold_0 9 rfl rfl)
theorem dX0_hold_10 : decode cX0_hold 10 = .ok (.aload_n 0, 1) := dk_42 (dk_at dksX0_hold_0 10 rfl rfl)
theorem dX0_hold_11 : decode cX0_hold 11 = .ok (.getfield 117, 3) := dk_180 0 117 (dk_at dksX0_hold_0 11 rfl rfl)
theorem dX0_hold_14 : decode cX0_hold 14 = .ok (.iload_n 1, 1) := dk_27 (dk_at dksX0_hold_0 14 rfl rfl)
theorem dX0_hold_15 : decode cX0_hold 15 = .ok (.aload_n 2, 1) := dk_44 (dk_at dksX0_hold_0 15 rfl rfl)
theorem dX0_hold_16 : decode cX0_hold 16 = .ok (.aastore, 1) := dk_83 (dk_at dksX0_hold_0 16 rfl rfl)
theorem dX0_hold_17 : decode cX0_hold 17 = .ok (.iconst 0, 1) := dk_3 (dk_at dksX0_hold_0 17 rfl rfl)
theorem dX0_hold_18 : decode cX0_hold 18 = .ok (.ireturn, 1) := dk_172 (dk_at dksX0_hold_0 18 rfl rfl)
abbrev cX0_write : ByteArray := prog_1_method_17_code
def yX0_write : MethodName := ⟨RX0, "write", "(III)I"⟩
def dkwX0_write_3 : List UInt8 := [21, 6, 182, 0, 144, 184, 0, 33, 132, 6, 1, 167, 255, 227, 3, 172, 58, 5, 16, 245, 172]
abbrev dktX0_write_3 : List UInt8 := dkwX0_write_3 ++ []
def dkwX0_write_2 : List UInt8 := [16, 244, 172, 3, 54, 6, 21, 6, 7, 162, 0, 29, 42, 180, 0, 17, 28, 50, 29, 21, 6, 96, 25, 4]
abbrev dktX0_write_2 : List UInt8 := dkwX0_write_2 ++ dktX0_write_3
def dkwX0_write_1 : List UInt8 := [42, 180, 0, 17, 28, 50, 184, 0, 141, 54, 5, 29, 155, 0, 11, 29, 21, 5, 7, 100, 164, 0, 6]
abbrev dktX0_write_1 : List UInt8 := dkwX0_write_1 ++ dktX0_write_2
def dkwX0_write_0 : List UInt8 := [27, 184, 0, 128, 153, 0, 10, 28, 184, 0, 9, 154, 0, 5, 2, 172, 42, 180, 0, 117, 27, 50, 58, 4]
abbrev dktX0_write_0 : List UInt8 := dkwX0_write_0 ++ dktX0_write_1
theorem dksX0_write_0 : cX0_write.data.toList.drop 0 = dktX0_write_0 := by decide +kernel
theorem dksX0_write_1 : cX0_write.data.toList.drop 24 = dktX0_write_1 := dk_seg dksX0_write_0 24 rfl rfl
theorem dksX0_write_2 : cX0_write.data.toList.drop 47 = dktX0_write_2 := dk_seg dksX0_write_1 23 rfl rfl
theorem dksX0_write_3 : cX0_write.data.toList.drop 71 = dktX0_write_3 := dk_seg dksX0_write_2 24 rfl rfl
theorem dX0_write_0 : decode cX0_write 0 = .ok (.iload_n 1, 1) := dk_27 (dk_at dksX0_write_0 0 rfl rfl)
theorem dX0_write_1 : decode cX0_write 1 = .ok (.invokestatic 128, 3) := dk_184 0 128 (dk_at dksX0_write_0 1 rfl rfl)
theorem dX0_write_4 : decode cX0_write 4 = .ok (.ifCond .eq 10, 3) := dk_153 0 10 (dk_at dksX0_write_0 4 rfl rfl)
theorem dX0_write_7 : decode cX0_write 7 = .ok (.iload_n 2, 1) := dk_28 (dk_at dksX0_write_0 7 rfl rfl)
theorem dX0_write_8 : decode cX0_write 8 = .ok (.invokestatic 9, 3) := dk_184 0 9 (dk_at dksX0_write_0 8 rfl rfl)
theorem dX0_write_11 : decode cX0_write 11 = .ok (.ifCond .ne 5, 3) := dk_154 0 5 (dk_at dksX0_write_0 11 rfl rfl)
theorem dX0_write_14 : decode cX0_write 14 = .ok (.iconst (-1), 1) := dk_2 (dk_at dksX0_write_0 14 rfl rfl)
theorem dX0_write_15 : decode cX0_write 15 = .ok (.ireturn, 1) := dk_172 (dk_at dksX0_write_0 15 rfl rfl)
theorem dX0_write_16 : decode cX0_write 16 = .ok (.aload_n 0, 1) := dk_42 (dk_at dksX0_write_0 16 rfl rfl)
theorem dX0_write_17 : decode cX0_write 17 = .ok (.getfield 117, 3) := dk_180 0 117 (dk_at dksX0_write_0 17 rfl rfl)
theorem dX0_write_20 : decode cX0_write 20 = .ok (.iload_n 1, 1) := dk_27 (dk_at dksX0_write_0 20 rfl rfl)
theorem dX0_write_21 : decode cX0_write 21 = .ok (.aaload, 1) := dk_50 (dk_at dksX0_write_0 21 rfl rfl)
theorem dX0_write_22 : decode cX0_write 22 = .ok (.astore 4, 2) := dk_58 4 (dk_at dksX0_write_0 22 rfl rfl)
theorem dX0_write_24 : decode cX0_write 24 = .ok (.aload_n 0, 1) := dk_42 (dk_at dksX0_write_1 0 rfl rfl)
theorem dX0_write_25 : decode cX0_write 25 = .ok (.getfield 17, 3) := dk_180 0 17 (dk_at dksX0_write_1 1 rfl rfl)
theorem dX0_write_28 : decode cX0_write 28 = .ok (.iload_n 2, 1) := dk_28 (dk_at dksX0_write_1 4 rfl rfl)
theorem dX0_write_29 : decode cX0_write 29 = .ok (.aaload, 1) := dk_50 (dk_at dksX0_write_1 5 rfl rfl)
theorem dX0_write_30 : decode cX0_write 30 = .ok (.invokestatic 141, 3) := dk_184 0 141 (dk_at dksX0_write_1 6 rfl rfl)
theorem dX0_write_33 : decode cX0_write 33 = .ok (.istore 5, 2) := dk_54 5 (dk_at dksX0_write_1 9 rfl rfl)
theorem dX0_write_35 : decode cX0_write 35 = .ok (.iload_n 3, 1) := dk_29 (dk_at dksX0_write_1 11 rfl rfl)
theorem dX0_write_36 : decode cX0_write 36 = .ok (.ifCond .lt 11, 3) := dk_155 0 11 (dk_at dksX0_write_1 12 rfl rfl)
theorem dX0_write_39 : decode cX0_write 39 = .ok (.iload_n 3, 1) := dk_29 (dk_at dksX0_write_1 15 rfl rfl)
theorem dX0_write_40 : decode cX0_write 40 = .ok (.iload 5, 2) := dk_21 5 (dk_at dksX0_write_1 16 rfl rfl)
theorem dX0_write_42 : decode cX0_write 42 = .ok (.iconst 4, 1) := dk_7 (dk_at dksX0_write_1 18 rfl rfl)
theorem dX0_write_43 : decode cX0_write 43 = .ok (.isub, 1) := dk_100 (dk_at dksX0_write_1 19 rfl rfl)
theorem dX0_write_44 : decode cX0_write 44 = .ok (.if_icmp .le 6, 3) := dk_164 0 6 (dk_at dksX0_write_1 20 rfl rfl)
theorem dX0_write_47 : decode cX0_write 47 = .ok (.bipush (-12), 2) := dk_16 244 (dk_at dksX0_write_2 0 rfl rfl)
theorem dX0_write_49 : decode cX0_write 49 = .ok (.ireturn, 1) := dk_172 (dk_at dksX0_write_2 2 rfl rfl)
theorem dX0_write_50 : decode cX0_write 50 = .ok (.iconst 0, 1) := dk_3 (dk_at dksX0_write_2 3 rfl rfl)
theorem dX0_write_51 : decode cX0_write 51 = .ok (.istore 6, 2) := dk_54 6 (dk_at dksX0_write_2 4 rfl rfl)
theorem dX0_write_53 : decode cX0_write 53 = .ok (.iload 6, 2) := dk_21 6 (dk_at dksX0_write_2 6 rfl rfl)
theorem dX0_write_55 : decode cX0_write 55 = .ok (.iconst 4, 1) := dk_7 (dk_at dksX0_write_2 8 rfl rfl)
theorem dX0_write_56 : decode cX0_write 56 = .ok (.if_icmp .ge 29, 3) := dk_162 0 29 (dk_at dksX0_write_2 9 rfl rfl)
theorem dX0_write_59 : decode cX0_write 59 = .ok (.aload_n 0, 1) := dk_42 (dk_at dksX0_write_2 12 rfl rfl)
theorem dX0_write_60 : decode cX0_write 60 = .ok (.getfield 17, 3) := dk_180 0 17 (dk_at dksX0_write_2 13 rfl rfl)
theorem dX0_write_63 : decode cX0_write 63 = .ok (.iload_n 2, 1) := dk_28 (dk_at dksX0_write_2 16 rfl rfl)
theorem dX0_write_64 : decode cX0_write 64 = .ok (.aaload, 1) := dk_50 (dk_at dksX0_write_2 17 rfl rfl)
theorem dX0_write_65 : decode cX0_write 65 = .ok (.iload_n 3, 1) := dk_29 (dk_at dksX0_write_2 18 rfl rfl)
theorem dX0_write_66 : decode cX0_write 66 = .ok (.iload 6, 2) := dk_21 6 (dk_at dksX0_write_2 19 rfl rfl)
theorem dX0_write_68 : decode cX0_write 68 = .ok (.iadd, 1) := dk_96 (dk_at dksX0_write_2 21 rfl rfl)
theorem dX0_write_69 : decode cX0_write 69 = .ok (.aload 4, 2) := dk_25 4 (dk_at dksX0_write_2 22 rfl rfl)
theorem dX0_write_71 : decode cX0_write 71 = .ok (.iload 6, 2) := dk_21 6 (dk_at dksX0_write_3 0 rfl rfl)
theorem dX0_write_73 : decode cX0_write 73 = .ok (.invokevirtual 144, 3) := dk_182 0 144 (dk_at dksX0_write_3 2 rfl rfl)
theorem dX0_write_76 : decode cX0_write 76 = .ok (.invokestatic 33, 3) := dk_184 0 33 (dk_at dksX0_write_3 5 rfl rfl)
theorem dX0_write_79 : decode cX0_write 79 = .ok (.iinc 6 1, 3) := dk_132 6 1 (dk_at dksX0_write_3 8 rfl rfl)
theorem dX0_write_82 : decode cX0_write 82 = .ok (.goto (-29), 3) := dk_167 255 227 (dk_at dksX0_write_3 11 rfl rfl)
theorem dX0_write_85 : decode cX0_write 85 = .ok (.iconst 0, 1) := dk_3 (dk_at dksX0_write_3 14 rfl rfl)
theorem dX0_write_86 : decode cX0_write 86 = .ok (.ireturn, 1) := dk_172 (dk_at dksX0_write_3 15 rfl rfl)
theorem dX0_write_87 : decode cX0_write 87 = .ok (.astore 5, 2) := dk_58 5 (dk_at dksX0_write_3 16 rfl rfl)
theorem dX0_write_89 : decode cX0_write 89 = .ok (.bipush (-11), 2) := dk_16 245 (dk_at dksX0_write_3 18 rfl rfl)
theorem dX0_write_91 : decode cX0_write 91 = .ok (.ireturn, 1) := dk_172 (dk_at dksX0_write_3 20 rfl rfl)
abbrev cX0_set : ByteArray := prog_1_method_18_code
def yX0_set : MethodName := ⟨RX0, "set", "(IIIII)I"⟩
def dkwX0_set_2 : List UInt8 := [16, 254, 172]
abbrev dktX0_set_2 : List UInt8 := dkwX0_set_2 ++ []
def dkwX0_set_1 : List UInt8 := [183, 0, 59, 58, 6, 25, 6, 184, 0, 69, 153, 0, 13, 42, 27, 25, 6, 182, 0, 137, 167, 0, 5]
abbrev dktX0_set_1 : List UInt8 := dkwX0_set_1 ++ dktX0_set_2
def dkwX0_set_0 : List UInt8 := [27, 184, 0, 128, 154, 0, 5, 2, 172, 187, 0, 57, 89, 28, 133, 29, 133, 21, 4, 133, 21, 5, 133]
abbrev dktX0_set_0 : List UInt8 := dkwX0_set_0 ++ dktX0_set_1
theorem dksX0_set_0 : cX0_set.data.toList.drop 0 = dktX0_set_0 := by decide +kernel
theorem dksX0_set_1 : cX0_set.data.toList.drop 23 = dktX0_set_1 := dk_seg dksX0_set_0 23 rfl rfl
theorem dksX0_set_2 : cX0_set.data.toList.drop 46 = dktX0_set_2 := dk_seg dksX0_set_1 23 rfl rfl
theorem dX0_set_0 : decode cX0_set 0 = .ok (.iload_n 1, 1) := dk_27 (dk_at dksX0_set_0 0 rfl rfl)
theorem dX0_set_1 : decode cX0_set 1 = .ok (.invokestatic 128, 3) := dk_184 0 128 (dk_at dksX0_set_0 1 rfl rfl)
theorem dX0_set_4 : decode cX0_set 4 = .ok (.ifCond .ne 5, 3) := dk_154 0 5 (dk_at dksX0_set_0 4 rfl rfl)
theorem dX0_set_7 : decode cX0_set 7 = .ok (.iconst (-1), 1) := dk_2 (dk_at dksX0_set_0 7 rfl rfl)
theorem dX0_set_8 : decode cX0_set 8 = .ok (.ireturn, 1) := dk_172 (dk_at dksX0_set_0 8 rfl rfl)
theorem dX0_set_9 : decode cX0_set 9 = .ok (.new 57, 3) := dk_187 0 57 (dk_at dksX0_set_0 9 rfl rfl)
theorem dX0_set_12 : decode cX0_set 12 = .ok (.dup, 1) := dk_89 (dk_at dksX0_set_0 12 rfl rfl)
theorem dX0_set_13 : decode cX0_set 13 = .ok (.iload_n 2, 1) := dk_28 (dk_at dksX0_set_0 13 rfl rfl)
theorem dX0_set_14 : decode cX0_set 14 = .ok (.i2l, 1) := dk_133 (dk_at dksX0_set_0 14 rfl rfl)
theorem dX0_set_15 : decode cX0_set 15 = .ok (.iload_n 3, 1) := dk_29 (dk_at dksX0_set_0 15 rfl rfl)
theorem dX0_set_16 : decode cX0_set 16 = .ok (.i2l, 1) := dk_133 (dk_at dksX0_set_0 16 rfl rfl)
theorem dX0_set_17 : decode cX0_set 17 = .ok (.iload 4, 2) := dk_21 4 (dk_at dksX0_set_0 17 rfl rfl)
theorem dX0_set_19 : decode cX0_set 19 = .ok (.i2l, 1) := dk_133 (dk_at dksX0_set_0 19 rfl rfl)
theorem dX0_set_20 : decode cX0_set 20 = .ok (.iload 5, 2) := dk_21 5 (dk_at dksX0_set_0 20 rfl rfl)
theorem dX0_set_22 : decode cX0_set 22 = .ok (.i2l, 1) := dk_133 (dk_at dksX0_set_0 22 rfl rfl)
theorem dX0_set_23 : decode cX0_set 23 = .ok (.invokespecial 59, 3) := dk_183 0 59 (dk_at dksX0_set_1 0 rfl rfl)
theorem dX0_set_26 : decode cX0_set 26 = .ok (.astore 6, 2) := dk_58 6 (dk_at dksX0_set_1 3 rfl rfl)
theorem dX0_set_28 : decode cX0_set 28 = .ok (.aload 6, 2) := dk_25 6 (dk_at dksX0_set_1 5 rfl rfl)
theorem dX0_set_30 : decode cX0_set 30 = .ok (.invokestatic 69, 3) := dk_184 0 69 (dk_at dksX0_set_1 7 rfl rfl)
theorem dX0_set_33 : decode cX0_set 33 = .ok (.ifCond .eq 13, 3) := dk_153 0 13 (dk_at dksX0_set_1 10 rfl rfl)
theorem dX0_set_36 : decode cX0_set 36 = .ok (.aload_n 0, 1) := dk_42 (dk_at dksX0_set_1 13 rfl rfl)
theorem dX0_set_37 : decode cX0_set 37 = .ok (.iload_n 1, 1) := dk_27 (dk_at dksX0_set_1 14 rfl rfl)
theorem dX0_set_38 : decode cX0_set 38 = .ok (.aload 6, 2) := dk_25 6 (dk_at dksX0_set_1 15 rfl rfl)
theorem dX0_set_40 : decode cX0_set 40 = .ok (.invokevirtual 137, 3) := dk_182 0 137 (dk_at dksX0_set_1 17 rfl rfl)
theorem dX0_set_43 : decode cX0_set 43 = .ok (.goto 5, 3) := dk_167 0 5 (dk_at dksX0_set_1 20 rfl rfl)
theorem dX0_set_46 : decode cX0_set 46 = .ok (.bipush (-2), 2) := dk_16 254 (dk_at dksX0_set_2 0 rfl rfl)
theorem dX0_set_48 : decode cX0_set 48 = .ok (.ireturn, 1) := dk_172 (dk_at dksX0_set_2 2 rfl rfl)
abbrev cX0_part : ByteArray := prog_1_method_20_code
def yX0_part : MethodName := ⟨RX0, "part", "(II)I"⟩
def dkwX0_part_3 : List UInt8 := [167, 0, 12, 3, 167, 0, 8, 42, 45, 182, 0, 160, 172]
abbrev dktX0_part_3 : List UInt8 := dkwX0_part_3 ++ []
def dkwX0_part_2 : List UInt8 := [160, 0, 11, 45, 182, 0, 154, 136, 167, 0, 28, 28, 8, 160, 0, 18, 45, 182, 0, 157, 153, 0, 7, 4]
abbrev dktX0_part_2 : List UInt8 := dkwX0_part_2 ++ dktX0_part_3
def dkwX0_part_1 : List UInt8 := [180, 0, 117, 27, 50, 78, 28, 7, 162, 0, 12, 45, 28, 182, 0, 144, 136, 167, 0, 41, 28, 7]
abbrev dktX0_part_1 : List UInt8 := dkwX0_part_1 ++ dktX0_part_2
def dkwX0_part_0 : List UInt8 := [27, 184, 0, 128, 153, 0, 15, 28, 133, 9, 20, 0, 151, 184, 0, 5, 154, 0, 6, 18, 153, 172, 42]
abbrev dktX0_part_0 : List UInt8 := dkwX0_part_0 ++ dktX0_part_1
theorem dksX0_part_0 : cX0_part.data.toList.drop 0 = dktX0_part_0 := by decide +kernel
theorem dksX0_part_1 : cX0_part.data.toList.drop 23 = dktX0_part_1 := dk_seg dksX0_part_0 23 rfl rfl
theorem dksX0_part_2 : cX0_part.data.toList.drop 45 = dktX0_part_2 := dk_seg dksX0_part_1 22 rfl rfl
theorem dksX0_part_3 : cX0_part.data.toList.drop 69 = dktX0_part_3 := dk_seg dksX0_part_2 24 rfl rfl
theorem dX0_part_0 : decode cX0_part 0 = .ok (.iload_n 1, 1) := dk_27 (dk_at dksX0_part_0 0 rfl rfl)
theorem dX0_part_1 : decode cX0_part 1 = .ok (.invokestatic 128, 3) := dk_184 0 128 (dk_at dksX0_part_0 1 rfl rfl)
theorem dX0_part_4 : decode cX0_part 4 = .ok (.ifCond .eq 15, 3) := dk_153 0 15 (dk_at dksX0_part_0 4 rfl rfl)
theorem dX0_part_7 : decode cX0_part 7 = .ok (.iload_n 2, 1) := dk_28 (dk_at dksX0_part_0 7 rfl rfl)
theorem dX0_part_8 : decode cX0_part 8 = .ok (.i2l, 1) := dk_133 (dk_at dksX0_part_0 8 rfl rfl)
theorem dX0_part_9 : decode cX0_part 9 = .ok (.lconst 0, 1) := dk_9 (dk_at dksX0_part_0 9 rfl rfl)
theorem dX0_part_10 : decode cX0_part 10 = .ok (.ldc2_w 151, 3) := dk_20 0 151 (dk_at dksX0_part_0 10 rfl rfl)
theorem dX0_part_13 : decode cX0_part 13 = .ok (.invokestatic 5, 3) := dk_184 0 5 (dk_at dksX0_part_0 13 rfl rfl)
theorem dX0_part_16 : decode cX0_part 16 = .ok (.ifCond .ne 6, 3) := dk_154 0 6 (dk_at dksX0_part_0 16 rfl rfl)
theorem dX0_part_19 : decode cX0_part 19 = .ok (.ldc 153, 2) := dk_18 153 (dk_at dksX0_part_0 19 rfl rfl)
theorem dX0_part_21 : decode cX0_part 21 = .ok (.ireturn, 1) := dk_172 (dk_at dksX0_part_0 21 rfl rfl)
theorem dX0_part_22 : decode cX0_part 22 = .ok (.aload_n 0, 1) := dk_42 (dk_at dksX0_part_0 22 rfl rfl)
theorem dX0_part_23 : decode cX0_part 23 = .ok (.getfield 117, 3) := dk_180 0 117 (dk_at dksX0_part_1 0 rfl rfl)
theorem dX0_part_26 : decode cX0_part 26 = .ok (.iload_n 1, 1) := dk_27 (dk_at dksX0_part_1 3 rfl rfl)
theorem dX0_part_27 : decode cX0_part 27 = .ok (.aaload, 1) := dk_50 (dk_at dksX0_part_1 4 rfl rfl)
theorem dX0_part_28 : decode cX0_part 28 = .ok (.astore_n 3, 1) := dk_78 (dk_at dksX0_part_1 5 rfl rfl)
theorem dX0_part_29 : decode cX0_part 29 = .ok (.iload_n 2, 1) := dk_28 (dk_at dksX0_part_1 6 rfl rfl)
theorem dX0_part_30 : decode cX0_part 30 = .ok (.iconst 4, 1) := dk_7 (dk_at dksX0_part_1 7 rfl rfl)
theorem dX0_part_31 : decode cX0_part 31 = .ok (.if_icmp .ge 12, 3) := dk_162 0 12 (dk_at dksX0_part_1 8 rfl rfl)
theorem dX0_part_34 : decode cX0_part 34 = .ok (.aload_n 3, 1) := dk_45 (dk_at dksX0_part_1 11 rfl rfl)
theorem dX0_part_35 : decode cX0_part 35 = .ok (.iload_n 2, 1) := dk_28 (dk_at dksX0_part_1 12 rfl rfl)
theorem dX0_part_36 : decode cX0_part 36 = .ok (.invokevirtual 144, 3) := dk_182 0 144 (dk_at dksX0_part_1 13 rfl rfl)
theorem dX0_part_39 : decode cX0_part 39 = .ok (.l2i, 1) := dk_136 (dk_at dksX0_part_1 16 rfl rfl)
theorem dX0_part_40 : decode cX0_part 40 = .ok (.goto 41, 3) := dk_167 0 41 (dk_at dksX0_part_1 17 rfl rfl)
theorem dX0_part_43 : decode cX0_part 43 = .ok (.iload_n 2, 1) := dk_28 (dk_at dksX0_part_1 20 rfl rfl)
theorem dX0_part_44 : decode cX0_part 44 = .ok (.iconst 4, 1) := dk_7 (dk_at dksX0_part_1 21 rfl rfl)
theorem dX0_part_45 : decode cX0_part 45 = .ok (.if_icmp .ne 11, 3) := dk_160 0 11 (dk_at dksX0_part_2 0 rfl rfl)
theorem dX0_part_48 : decode cX0_part 48 = .ok (.aload_n 3, 1) := dk_45 (dk_at dksX0_part_2 3 rfl rfl)
theorem dX0_part_49 : decode cX0_part 49 = .ok (.invokevirtual 154, 3) := dk_182 0 154 (dk_at dksX0_part_2 4 rfl rfl)
theorem dX0_part_52 : decode cX0_part 52 = .ok (.l2i, 1) := dk_136 (dk_at dksX0_part_2 7 rfl rfl)
theorem dX0_part_53 : decode cX0_part 53 = .ok (.goto 28, 3) := dk_167 0 28 (dk_at dksX0_part_2 8 rfl rfl)
theorem dX0_part_56 : decode cX0_part 56 = .ok (.iload_n 2, 1) := dk_28 (dk_at dksX0_part_2 11 rfl rfl)
theorem dX0_part_57 : decode cX0_part 57 = .ok (.iconst 5, 1) := dk_8 (dk_at dksX0_part_2 12 rfl rfl)
theorem dX0_part_58 : decode cX0_part 58 = .ok (.if_icmp .ne 18, 3) := dk_160 0 18 (dk_at dksX0_part_2 13 rfl rfl)
theorem dX0_part_61 : decode cX0_part 61 = .ok (.aload_n 3, 1) := dk_45 (dk_at dksX0_part_2 16 rfl rfl)
theorem dX0_part_62 : decode cX0_part 62 = .ok (.invokevirtual 157, 3) := dk_182 0 157 (dk_at dksX0_part_2 17 rfl rfl)
theorem dX0_part_65 : decode cX0_part 65 = .ok (.ifCond .eq 7, 3) := dk_153 0 7 (dk_at dksX0_part_2 20 rfl rfl)
theorem dX0_part_68 : decode cX0_part 68 = .ok (.iconst 1, 1) := dk_4 (dk_at dksX0_part_2 23 rfl rfl)
theorem dX0_part_69 : decode cX0_part 69 = .ok (.goto 12, 3) := dk_167 0 12 (dk_at dksX0_part_3 0 rfl rfl)
theorem dX0_part_72 : decode cX0_part 72 = .ok (.iconst 0, 1) := dk_3 (dk_at dksX0_part_3 3 rfl rfl)
theorem dX0_part_73 : decode cX0_part 73 = .ok (.goto 8, 3) := dk_167 0 8 (dk_at dksX0_part_3 4 rfl rfl)
theorem dX0_part_76 : decode cX0_part 76 = .ok (.aload_n 0, 1) := dk_42 (dk_at dksX0_part_3 7 rfl rfl)
theorem dX0_part_77 : decode cX0_part 77 = .ok (.aload_n 3, 1) := dk_45 (dk_at dksX0_part_3 8 rfl rfl)
theorem dX0_part_78 : decode cX0_part 78 = .ok (.invokevirtual 160, 3) := dk_182 0 160 (dk_at dksX0_part_3 9 rfl rfl)
theorem dX0_part_81 : decode cX0_part 81 = .ok (.ireturn, 1) := dk_172 (dk_at dksX0_part_3 12 rfl rfl)
abbrev cX0_unitOf : ByteArray := prog_1_method_19_code
def yX0_unitOf : MethodName := ⟨RX0, "unitOf", "(LFourParts$Four;)I"⟩
def dkwX0_unitOf_1 : List UInt8 := [28, 172, 132, 2, 1, 167, 255, 229, 16, 252, 172]
abbrev dktX0_unitOf_1 : List UInt8 := dkwX0_unitOf_1 ++ []
def dkwX0_unitOf_0 : List UInt8 := [3, 61, 28, 42, 180, 0, 99, 190, 162, 0, 24, 42, 180, 0, 99, 28, 50, 43, 182, 0, 148, 153, 0, 5]
abbrev dktX0_unitOf_0 : List UInt8 := dkwX0_unitOf_0 ++ dktX0_unitOf_1
theorem dksX0_unitOf_0 : cX0_unitOf.data.toList.drop 0 = dktX0_unitOf_0 := by decide +kernel
theorem dksX0_unitOf_1 : cX0_unitOf.data.toList.drop 24 = dktX0_unitOf_1 := dk_seg dksX0_unitOf_0 24 rfl rfl
theorem dX0_unitOf_0 : decode cX0_unitOf 0 = .ok (.iconst 0, 1) := dk_3 (dk_at dksX0_unitOf_0 0 rfl rfl)
theorem dX0_unitOf_1 : decode cX0_unitOf 1 = .ok (.istore_n 2, 1) := dk_61 (dk_at dksX0_unitOf_0 1 rfl rfl)
theorem dX0_unitOf_2 : decode cX0_unitOf 2 = .ok (.iload_n 2, 1) := dk_28 (dk_at dksX0_unitOf_0 2 rfl rfl)
theorem dX0_unitOf_3 : decode cX0_unitOf 3 = .ok (.aload_n 0, 1) := dk_42 (dk_at dksX0_unitOf_0 3 rfl rfl)
theorem dX0_unitOf_4 : decode cX0_unitOf 4 = .ok (.getfield 99, 3) := dk_180 0 99 (dk_at dksX0_unitOf_0 4 rfl rfl)
theorem dX0_unitOf_7 : decode cX0_unitOf 7 = .ok (.arraylength, 1) := dk_190 (dk_at dksX0_unitOf_0 7 rfl rfl)
theorem dX0_unitOf_8 : decode cX0_unitOf 8 = .ok (.if_icmp .ge 24, 3) := dk_162 0 24 (dk_at dksX0_unitOf_0 8 rfl rfl)
theorem dX0_unitOf_11 : decode cX0_unitOf 11 = .ok (.aload_n 0, 1) := dk_42 (dk_at dksX0_unitOf_0 11 rfl rfl)
theorem dX0_unitOf_12 : decode cX0_unitOf 12 = .ok (.getfield 99, 3) := dk_180 0 99 (dk_at dksX0_unitOf_0 12 rfl rfl)
theorem dX0_unitOf_15 : decode cX0_unitOf 15 = .ok (.iload_n 2, 1) := dk_28 (dk_at dksX0_unitOf_0 15 rfl rfl)
theorem dX0_unitOf_16 : decode cX0_unitOf 16 = .ok (.aaload, 1) := dk_50 (dk_at dksX0_unitOf_0 16 rfl rfl)
theorem dX0_unitOf_17 : decode cX0_unitOf 17 = .ok (.aload_n 1, 1) := dk_43 (dk_at dksX0_unitOf_0 17 rfl rfl)
theorem dX0_unitOf_18 : decode cX0_unitOf 18 = .ok (.invokevirtual 148, 3) := dk_182 0 148 (dk_at dksX0_unitOf_0 18 rfl rfl)
theorem dX0_unitOf_21 : decode cX0_unitOf 21 = .ok (.ifCond .eq 5, 3) := dk_153 0 5 (dk_at dksX0_unitOf_0 21 rfl rfl)
theorem dX0_unitOf_24 : decode cX0_unitOf 24 = .ok (.iload_n 2, 1) := dk_28 (dk_at dksX0_unitOf_1 0 rfl rfl)
theorem dX0_unitOf_25 : decode cX0_unitOf 25 = .ok (.ireturn, 1) := dk_172 (dk_at dksX0_unitOf_1 1 rfl rfl)
theorem dX0_unitOf_26 : decode cX0_unitOf 26 = .ok (.iinc 2 1, 3) := dk_132 2 1 (dk_at dksX0_unitOf_1 2 rfl rfl)
theorem dX0_unitOf_29 : decode cX0_unitOf 29 = .ok (.goto (-27), 3) := dk_167 255 229 (dk_at dksX0_unitOf_1 5 rfl rfl)
theorem dX0_unitOf_32 : decode cX0_unitOf 32 = .ok (.bipush (-4), 2) := dk_16 252 (dk_at dksX0_unitOf_1 8 rfl rfl)
theorem dX0_unitOf_34 : decode cX0_unitOf 34 = .ok (.ireturn, 1) := dk_172 (dk_at dksX0_unitOf_1 10 rfl rfl)
abbrev cX0_work : ByteArray := prog_1_method_21_code
def yX0_work : MethodName := ⟨RX0, "work", "(IIII)I"⟩
def dkwX0_work_6 : List UInt8 := [21, 4, 50, 182, 0, 170, 182, 0, 137, 172, 42, 27, 25, 5, 182, 0, 174, 182, 0, 137, 172]
abbrev dktX0_work_6 : List UInt8 := dkwX0_work_6 ++ []
def dkwX0_work_5 : List UInt8 := [180, 0, 117, 21, 4, 50, 20, 0, 13, 182, 0, 166, 182, 0, 137, 172, 42, 27, 25, 5, 42, 180, 0, 117]
abbrev dktX0_work_5 : List UInt8 := dkwX0_work_5 ++ dktX0_work_6
def dkwX0_work_4 : List UInt8 := [42, 27, 25, 5, 42, 180, 0, 117, 21, 4, 50, 10, 182, 0, 166, 182, 0, 137, 172, 42, 27, 25, 5, 42]
abbrev dktX0_work_4 : List UInt8 := dkwX0_work_4 ++ dktX0_work_5
def dkwX0_work_3 : List UInt8 := [170, 0, 0, 0, 0, 84, 0, 0, 0, 0, 0, 0, 0, 2, 0, 0, 0, 26, 0, 0, 0, 45, 0, 0, 0, 66]
abbrev dktX0_work_3 : List UInt8 := dkwX0_work_3 ++ dktX0_work_4
def dkwX0_work_2 : List UInt8 := [58, 5, 28]
abbrev dktX0_work_2 : List UInt8 := dkwX0_work_2 ++ dktX0_work_3
def dkwX0_work_1 : List UInt8 := [153, 0, 16, 28, 6, 162, 0, 13, 21, 4, 184, 0, 128, 154, 0, 5, 2, 172, 42, 180, 0, 117, 29, 50]
abbrev dktX0_work_1 : List UInt8 := dkwX0_work_1 ++ dktX0_work_2
def dkwX0_work_0 : List UInt8 := [27, 184, 0, 128, 153, 0, 35, 28, 133, 9, 20, 0, 164, 184, 0, 5, 153, 0, 23, 29, 184, 0, 128]
abbrev dktX0_work_0 : List UInt8 := dkwX0_work_0 ++ dktX0_work_1
theorem dksX0_work_0 : cX0_work.data.toList.drop 0 = dktX0_work_0 := by decide +kernel
theorem dksX0_work_1 : cX0_work.data.toList.drop 23 = dktX0_work_1 := dk_seg dksX0_work_0 23 rfl rfl
theorem dksX0_work_2 : cX0_work.data.toList.drop 47 = dktX0_work_2 := dk_seg dksX0_work_1 24 rfl rfl
theorem dksX0_work_3 : cX0_work.data.toList.drop 50 = dktX0_work_3 := dk_seg dksX0_work_2 3 rfl rfl
theorem dksX0_work_4 : cX0_work.data.toList.drop 76 = dktX0_work_4 := dk_seg dksX0_work_3 26 rfl rfl
theorem dksX0_work_5 : cX0_work.data.toList.drop 100 = dktX0_work_5 := dk_seg dksX0_work_4 24 rfl rfl
theorem dksX0_work_6 : cX0_work.data.toList.drop 124 = dktX0_work_6 := dk_seg dksX0_work_5 24 rfl rfl
theorem dX0_work_0 : decode cX0_work 0 = .ok (.iload_n 1, 1) := dk_27 (dk_at dksX0_work_0 0 rfl rfl)
theorem dX0_work_1 : decode cX0_work 1 = .ok (.invokestatic 128, 3) := dk_184 0 128 (dk_at dksX0_work_0 1 rfl rfl)
theorem dX0_work_4 : decode cX0_work 4 = .ok (.ifCond .eq 35, 3) := dk_153 0 35 (dk_at dksX0_work_0 4 rfl rfl)
theorem dX0_work_7 : decode cX0_work 7 = .ok (.iload_n 2, 1) := dk_28 (dk_at dksX0_work_0 7 rfl rfl)
theorem dX0_work_8 : decode cX0_work 8 = .ok (.i2l, 1) := dk_133 (dk_at dksX0_work_0 8 rfl rfl)
theorem dX0_work_9 : decode cX0_work 9 = .ok (.lconst 0, 1) := dk_9 (dk_at dksX0_work_0 9 rfl rfl)
theorem dX0_work_10 : decode cX0_work 10 = .ok (.ldc2_w 164, 3) := dk_20 0 164 (dk_at dksX0_work_0 10 rfl rfl)
theorem dX0_work_13 : decode cX0_work 13 = .ok (.invokestatic 5, 3) := dk_184 0 5 (dk_at dksX0_work_0 13 rfl rfl)
theorem dX0_work_16 : decode cX0_work 16 = .ok (.ifCond .eq 23, 3) := dk_153 0 23 (dk_at dksX0_work_0 16 rfl rfl)
theorem dX0_work_19 : decode cX0_work 19 = .ok (.iload_n 3, 1) := dk_29 (dk_at dksX0_work_0 19 rfl rfl)
theorem dX0_work_20 : decode cX0_work 20 = .ok (.invokestatic 128, 3) := dk_184 0 128 (dk_at dksX0_work_0 20 rfl rfl)
theorem dX0_work_23 : decode cX0_work 23 = .ok (.ifCond .eq 16, 3) := dk_153 0 16 (dk_at dksX0_work_1 0 rfl rfl)
theorem dX0_work_26 : decode cX0_work 26 = .ok (.iload_n 2, 1) := dk_28 (dk_at dksX0_work_1 3 rfl rfl)
theorem dX0_work_27 : decode cX0_work 27 = .ok (.iconst 3, 1) := dk_6 (dk_at dksX0_work_1 4 rfl rfl)
theorem dX0_work_28 : decode cX0_work 28 = .ok (.if_icmp .ge 13, 3) := dk_162 0 13 (dk_at dksX0_work_1 5 rfl rfl)
theorem dX0_work_31 : decode cX0_work 31 = .ok (.iload 4, 2) := dk_21 4 (dk_at dksX0_work_1 8 rfl rfl)
theorem dX0_work_33 : decode cX0_work 33 = .ok (.invokestatic 128, 3) := dk_184 0 128 (dk_at dksX0_work_1 10 rfl rfl)
theorem dX0_work_36 : decode cX0_work 36 = .ok (.ifCond .ne 5, 3) := dk_154 0 5 (dk_at dksX0_work_1 13 rfl rfl)
theorem dX0_work_39 : decode cX0_work 39 = .ok (.iconst (-1), 1) := dk_2 (dk_at dksX0_work_1 16 rfl rfl)
theorem dX0_work_40 : decode cX0_work 40 = .ok (.ireturn, 1) := dk_172 (dk_at dksX0_work_1 17 rfl rfl)
theorem dX0_work_41 : decode cX0_work 41 = .ok (.aload_n 0, 1) := dk_42 (dk_at dksX0_work_1 18 rfl rfl)
theorem dX0_work_42 : decode cX0_work 42 = .ok (.getfield 117, 3) := dk_180 0 117 (dk_at dksX0_work_1 19 rfl rfl)
theorem dX0_work_45 : decode cX0_work 45 = .ok (.iload_n 3, 1) := dk_29 (dk_at dksX0_work_1 22 rfl rfl)
theorem dX0_work_46 : decode cX0_work 46 = .ok (.aaload, 1) := dk_50 (dk_at dksX0_work_1 23 rfl rfl)
theorem dX0_work_47 : decode cX0_work 47 = .ok (.astore 5, 2) := dk_58 5 (dk_at dksX0_work_2 0 rfl rfl)
theorem dX0_work_49 : decode cX0_work 49 = .ok (.iload_n 2, 1) := dk_28 (dk_at dksX0_work_2 2 rfl rfl)
theorem dX0_work_50 : decode cX0_work 50 = .ok (.tableswitch 84 0 2 #[26, 45, 66], 26) := by decide +kernel
theorem dX0_work_76 : decode cX0_work 76 = .ok (.aload_n 0, 1) := dk_42 (dk_at dksX0_work_4 0 rfl rfl)
theorem dX0_work_77 : decode cX0_work 77 = .ok (.iload_n 1, 1) := dk_27 (dk_at dksX0_work_4 1 rfl rfl)
theorem dX0_work_78 : decode cX0_work 78 = .ok (.aload 5, 2) := dk_25 5 (dk_at dksX0_work_4 2 rfl rfl)
theorem dX0_work_80 : decode cX0_work 80 = .ok (.aload_n 0, 1) := dk_42 (dk_at dksX0_work_4 4 rfl rfl)
theorem dX0_work_81 : decode cX0_work 81 = .ok (.getfield 117, 3) := dk_180 0 117 (dk_at dksX0_work_4 5 rfl rfl)
theorem dX0_work_84 : decode cX0_work 84 = .ok (.iload 4, 2) := dk_21 4 (dk_at dksX0_work_4 8 rfl rfl)
theorem dX0_work_86 : decode cX0_work 86 = .ok (.aaload, 1) := dk_50 (dk_at dksX0_work_4 10 rfl rfl)
theorem dX0_work_87 : decode cX0_work 87 = .ok (.lconst 1, 1) := dk_10 (dk_at dksX0_work_4 11 rfl rfl)
theorem dX0_work_88 : decode cX0_work 88 = .ok (.invokevirtual 166, 3) := dk_182 0 166 (dk_at dksX0_work_4 12 rfl rfl)
theorem dX0_work_91 : decode cX0_work 91 = .ok (.invokevirtual 137, 3) := dk_182 0 137 (dk_at dksX0_work_4 15 rfl rfl)
theorem dX0_work_94 : decode cX0_work 94 = .ok (.ireturn, 1) := dk_172 (dk_at dksX0_work_4 18 rfl rfl)
theorem dX0_work_95 : decode cX0_work 95 = .ok (.aload_n 0, 1) := dk_42 (dk_at dksX0_work_4 19 rfl rfl)
theorem dX0_work_96 : decode cX0_work 96 = .ok (.iload_n 1, 1) := dk_27 (dk_at dksX0_work_4 20 rfl rfl)
theorem dX0_work_97 : decode cX0_work 97 = .ok (.aload 5, 2) := dk_25 5 (dk_at dksX0_work_4 21 rfl rfl)
theorem dX0_work_99 : decode cX0_work 99 = .ok (.aload_n 0, 1) := dk_42 (dk_at dksX0_work_4 23 rfl rfl)
theorem dX0_work_100 : decode cX0_work 100 = .ok (.getfield 117, 3) := dk_180 0 117 (dk_at dksX0_work_5 0 rfl rfl)
theorem dX0_work_103 : decode cX0_work 103 = .ok (.iload 4, 2) := dk_21 4 (dk_at dksX0_work_5 3 rfl rfl)
theorem dX0_work_105 : decode cX0_work 105 = .ok (.aaload, 1) := dk_50 (dk_at dksX0_work_5 5 rfl rfl)
theorem dX0_work_106 : decode cX0_work 106 = .ok (.ldc2_w 13, 3) := dk_20 0 13 (dk_at dksX0_work_5 6 rfl rfl)
theorem dX0_work_109 : decode cX0_work 109 = .ok (.invokevirtual 166, 3) := dk_182 0 166 (dk_at dksX0_work_5 9 rfl rfl)
theorem dX0_work_112 : decode cX0_work 112 = .ok (.invokevirtual 137, 3) := dk_182 0 137 (dk_at dksX0_work_5 12 rfl rfl)
theorem dX0_work_115 : decode cX0_work 115 = .ok (.ireturn, 1) := dk_172 (dk_at dksX0_work_5 15 rfl rfl)
theorem dX0_work_116 : decode cX0_work 116 = .ok (.aload_n 0, 1) := dk_42 (dk_at dksX0_work_5 16 rfl rfl)
theorem dX0_work_117 : decode cX0_work 117 = .ok (.iload_n 1, 1) := dk_27 (dk_at dksX0_work_5 17 rfl rfl)
theorem dX0_work_118 : decode cX0_work 118 = .ok (.aload 5, 2) := dk_25 5 (dk_at dksX0_work_5 18 rfl rfl)
theorem dX0_work_120 : decode cX0_work 120 = .ok (.aload_n 0, 1) := dk_42 (dk_at dksX0_work_5 20 rfl rfl)
theorem dX0_work_121 : decode cX0_work 121 = .ok (.getfield 117, 3) := dk_180 0 117 (dk_at dksX0_work_5 21 rfl rfl)
theorem dX0_work_124 : decode cX0_work 124 = .ok (.iload 4, 2) := dk_21 4 (dk_at dksX0_work_6 0 rfl rfl)
theorem dX0_work_126 : decode cX0_work 126 = .ok (.aaload, 1) := dk_50 (dk_at dksX0_work_6 2 rfl rfl)
theorem dX0_work_127 : decode cX0_work 127 = .ok (.invokevirtual 170, 3) := dk_182 0 170 (dk_at dksX0_work_6 3 rfl rfl)
theorem dX0_work_130 : decode cX0_work 130 = .ok (.invokevirtual 137, 3) := dk_182 0 137 (dk_at dksX0_work_6 6 rfl rfl)
theorem dX0_work_133 : decode cX0_work 133 = .ok (.ireturn, 1) := dk_172 (dk_at dksX0_work_6 9 rfl rfl)
theorem dX0_work_134 : decode cX0_work 134 = .ok (.aload_n 0, 1) := dk_42 (dk_at dksX0_work_6 10 rfl rfl)
theorem dX0_work_135 : decode cX0_work 135 = .ok (.iload_n 1, 1) := dk_27 (dk_at dksX0_work_6 11 rfl rfl)
theorem dX0_work_136 : decode cX0_work 136 = .ok (.aload 5, 2) := dk_25 5 (dk_at dksX0_work_6 12 rfl rfl)
theorem dX0_work_138 : decode cX0_work 138 = .ok (.invokevirtual 174, 3) := dk_182 0 174 (dk_at dksX0_work_6 14 rfl rfl)
theorem dX0_work_141 : decode cX0_work 141 = .ok (.invokevirtual 137, 3) := dk_182 0 137 (dk_at dksX0_work_6 17 rfl rfl)
theorem dX0_work_144 : decode cX0_work 144 = .ok (.ireturn, 1) := dk_172 (dk_at dksX0_work_6 20 rfl rfl)
abbrev cX0_unit : ByteArray := prog_1_method_23_code
def yX0_unit : MethodName := ⟨RX0, "unit", "(IIII)I"⟩
def dkwX0_unit_2 : List UInt8 := [180, 0, 117, 28, 50, 42, 180, 0, 99, 29, 50, 182, 0, 183, 182, 0, 137, 172]
abbrev dktX0_unit_2 : List UInt8 := dkwX0_unit_2 ++ []
def dkwX0_unit_1 : List UInt8 := [153, 0, 11, 21, 4, 184, 0, 180, 154, 0, 5, 2, 172, 42, 27, 42, 180, 0, 110, 21, 4, 50, 42]
abbrev dktX0_unit_1 : List UInt8 := dkwX0_unit_1 ++ dktX0_unit_2
def dkwX0_unit_0 : List UInt8 := [27, 184, 0, 128, 153, 0, 30, 28, 184, 0, 128, 153, 0, 23, 29, 133, 9, 20, 0, 178, 184, 0, 5]
abbrev dktX0_unit_0 : List UInt8 := dkwX0_unit_0 ++ dktX0_unit_1
theorem dksX0_unit_0 : cX0_unit.data.toList.drop 0 = dktX0_unit_0 := by decide +kernel
theorem dksX0_unit_1 : cX0_unit.data.toList.drop 23 = dktX0_unit_1 := dk_seg dksX0_unit_0 23 rfl rfl
theorem dksX0_unit_2 : cX0_unit.data.toList.drop 46 = dktX0_unit_2 := dk_seg dksX0_unit_1 23 rfl rfl
theorem dX0_unit_0 : decode cX0_unit 0 = .ok (.iload_n 1, 1) := dk_27 (dk_at dksX0_unit_0 0 rfl rfl)
theorem dX0_unit_1 : decode cX0_unit 1 = .ok (.invokestatic 128, 3) := dk_184 0 128 (dk_at dksX0_unit_0 1 rfl rfl)
theorem dX0_unit_4 : decode cX0_unit 4 = .ok (.ifCond .eq 30, 3) := dk_153 0 30 (dk_at dksX0_unit_0 4 rfl rfl)
theorem dX0_unit_7 : decode cX0_unit 7 = .ok (.iload_n 2, 1) := dk_28 (dk_at dksX0_unit_0 7 rfl rfl)
theorem dX0_unit_8 : decode cX0_unit 8 = .ok (.invokestatic 128, 3) := dk_184 0 128 (dk_at dksX0_unit_0 8 rfl rfl)
theorem dX0_unit_11 : decode cX0_unit 11 = .ok (.ifCond .eq 23, 3) := dk_153 0 23 (dk_at dksX0_unit_0 11 rfl rfl)
theorem dX0_unit_14 : decode cX0_unit 14 = .ok (.iload_n 3, 1) := dk_29 (dk_at dksX0_unit_0 14 rfl rfl)
theorem dX0_unit_15 : decode cX0_unit 15 = .ok (.i2l, 1) := dk_133 (dk_at dksX0_unit_0 15 rfl rfl)
theorem dX0_unit_16 : decode cX0_unit 16 = .ok (.lconst 0, 1) := dk_9 (dk_at dksX0_unit_0 16 rfl rfl)
theorem dX0_unit_17 : decode cX0_unit 17 = .ok (.ldc2_w 178, 3) := dk_20 0 178 (dk_at dksX0_unit_0 17 rfl rfl)
theorem dX0_unit_20 : decode cX0_unit 20 = .ok (.invokestatic 5, 3) := dk_184 0 5 (dk_at dksX0_unit_0 20 rfl rfl)
theorem dX0_unit_23 : decode cX0_unit 23 = .ok (.ifCond .eq 11, 3) := dk_153 0 11 (dk_at dksX0_unit_1 0 rfl rfl)
theorem dX0_unit_26 : decode cX0_unit 26 = .ok (.iload 4, 2) := dk_21 4 (dk_at dksX0_unit_1 3 rfl rfl)
theorem dX0_unit_28 : decode cX0_unit 28 = .ok (.invokestatic 180, 3) := dk_184 0 180 (dk_at dksX0_unit_1 5 rfl rfl)
theorem dX0_unit_31 : decode cX0_unit 31 = .ok (.ifCond .ne 5, 3) := dk_154 0 5 (dk_at dksX0_unit_1 8 rfl rfl)
theorem dX0_unit_34 : decode cX0_unit 34 = .ok (.iconst (-1), 1) := dk_2 (dk_at dksX0_unit_1 11 rfl rfl)
theorem dX0_unit_35 : decode cX0_unit 35 = .ok (.ireturn, 1) := dk_172 (dk_at dksX0_unit_1 12 rfl rfl)
theorem dX0_unit_36 : decode cX0_unit 36 = .ok (.aload_n 0, 1) := dk_42 (dk_at dksX0_unit_1 13 rfl rfl)
theorem dX0_unit_37 : decode cX0_unit 37 = .ok (.iload_n 1, 1) := dk_27 (dk_at dksX0_unit_1 14 rfl rfl)
theorem dX0_unit_38 : decode cX0_unit 38 = .ok (.aload_n 0, 1) := dk_42 (dk_at dksX0_unit_1 15 rfl rfl)
theorem dX0_unit_39 : decode cX0_unit 39 = .ok (.getfield 110, 3) := dk_180 0 110 (dk_at dksX0_unit_1 16 rfl rfl)
theorem dX0_unit_42 : decode cX0_unit 42 = .ok (.iload 4, 2) := dk_21 4 (dk_at dksX0_unit_1 19 rfl rfl)
theorem dX0_unit_44 : decode cX0_unit 44 = .ok (.aaload, 1) := dk_50 (dk_at dksX0_unit_1 21 rfl rfl)
theorem dX0_unit_45 : decode cX0_unit 45 = .ok (.aload_n 0, 1) := dk_42 (dk_at dksX0_unit_1 22 rfl rfl)
theorem dX0_unit_46 : decode cX0_unit 46 = .ok (.getfield 117, 3) := dk_180 0 117 (dk_at dksX0_unit_2 0 rfl rfl)
theorem dX0_unit_49 : decode cX0_unit 49 = .ok (.iload_n 2, 1) := dk_28 (dk_at dksX0_unit_2 3 rfl rfl)
theorem dX0_unit_50 : decode cX0_unit 50 = .ok (.aaload, 1) := dk_50 (dk_at dksX0_unit_2 4 rfl rfl)
theorem dX0_unit_51 : decode cX0_unit 51 = .ok (.aload_n 0, 1) := dk_42 (dk_at dksX0_unit_2 5 rfl rfl)
theorem dX0_unit_52 : decode cX0_unit 52 = .ok (.getfield 99, 3) := dk_180 0 99 (dk_at dksX0_unit_2 6 rfl rfl)
theorem dX0_unit_55 : decode cX0_unit 55 = .ok (.iload_n 3, 1) := dk_29 (dk_at dksX0_unit_2 9 rfl rfl)
theorem dX0_unit_56 : decode cX0_unit 56 = .ok (.aaload, 1) := dk_50 (dk_at dksX0_unit_2 10 rfl rfl)
theorem dX0_unit_57 : decode cX0_unit 57 = .ok (.invokevirtual 183, 3) := dk_182 0 183 (dk_at dksX0_unit_2 11 rfl rfl)
theorem dX0_unit_60 : decode cX0_unit 60 = .ok (.invokevirtual 137, 3) := dk_182 0 137 (dk_at dksX0_unit_2 14 rfl rfl)
theorem dX0_unit_63 : decode cX0_unit 63 = .ok (.ireturn, 1) := dk_172 (dk_at dksX0_unit_2 17 rfl rfl)
abbrev cX0_isSide : ByteArray := prog_1_method_22_code
def yX0_isSide : MethodName := ⟨RX0, "isSide", "(I)Z"⟩
def dkwX0_isSide_0 : List UInt8 := [26, 133, 9, 10, 184, 0, 5, 172]
abbrev dktX0_isSide_0 : List UInt8 := dkwX0_isSide_0 ++ []
theorem dksX0_isSide_0 : cX0_isSide.data.toList.drop 0 = dktX0_isSide_0 := by decide +kernel
theorem dX0_isSide_0 : decode cX0_isSide 0 = .ok (.iload_n 0, 1) := dk_26 (dk_at dksX0_isSide_0 0 rfl rfl)
theorem dX0_isSide_1 : decode cX0_isSide 1 = .ok (.i2l, 1) := dk_133 (dk_at dksX0_isSide_0 1 rfl rfl)
theorem dX0_isSide_2 : decode cX0_isSide 2 = .ok (.lconst 0, 1) := dk_9 (dk_at dksX0_isSide_0 2 rfl rfl)
theorem dX0_isSide_3 : decode cX0_isSide 3 = .ok (.lconst 1, 1) := dk_10 (dk_at dksX0_isSide_0 3 rfl rfl)
theorem dX0_isSide_4 : decode cX0_isSide 4 = .ok (.invokestatic 5, 3) := dk_184 0 5 (dk_at dksX0_isSide_0 4 rfl rfl)
theorem dX0_isSide_7 : decode cX0_isSide 7 = .ok (.ireturn, 1) := dk_172 (dk_at dksX0_isSide_0 7 rfl rfl)
abbrev cX0_divide : ByteArray := prog_1_method_24_code
def yX0_divide : MethodName := ⟨RX0, "divide", "(IIIII)I"⟩
def dkwX0_divide_6 : List UInt8 := [182, 0, 137, 172]
abbrev dktX0_divide_6 : List UInt8 := dkwX0_divide_6 ++ []
def dkwX0_divide_5 : List UInt8 := [172, 42, 28, 25, 9, 182, 0, 137, 54, 10, 21, 10, 156, 0, 8, 21, 10, 167, 0, 10, 42, 27, 25, 8]
abbrev dktX0_divide_5 : List UInt8 := dkwX0_divide_5 ++ dktX0_divide_6
def dkwX0_divide_4 : List UInt8 := [21, 5, 50, 25, 6, 25, 8, 25, 7, 182, 0, 193, 58, 9, 25, 8, 182, 0, 124, 154, 0, 6, 16, 253]
abbrev dktX0_divide_4 : List UInt8 := dkwX0_divide_4 ++ dktX0_divide_5
def dkwX0_divide_3 : List UInt8 := [16, 254, 172, 42, 180, 0, 110, 21, 5, 50, 25, 6, 25, 7, 182, 0, 190, 58, 8, 42, 180, 0, 110]
abbrev dktX0_divide_3 : List UInt8 := dkwX0_divide_3 ++ dktX0_divide_4
def dkwX0_divide_2 : List UInt8 := [180, 0, 117, 29, 50, 58, 6, 42, 180, 0, 117, 21, 4, 50, 58, 7, 25, 7, 182, 0, 187, 153, 0, 6]
abbrev dktX0_divide_2 : List UInt8 := dkwX0_divide_2 ++ dktX0_divide_3
def dkwX0_divide_1 : List UInt8 := [153, 0, 19, 21, 4, 184, 0, 128, 153, 0, 11, 21, 5, 184, 0, 180, 154, 0, 5, 2, 172, 42]
abbrev dktX0_divide_1 : List UInt8 := dkwX0_divide_1 ++ dktX0_divide_2
def dkwX0_divide_0 : List UInt8 := [27, 184, 0, 128, 153, 0, 38, 28, 184, 0, 128, 153, 0, 31, 27, 28, 159, 0, 26, 29, 184, 0, 128]
abbrev dktX0_divide_0 : List UInt8 := dkwX0_divide_0 ++ dktX0_divide_1
theorem dksX0_divide_0 : cX0_divide.data.toList.drop 0 = dktX0_divide_0 := by decide +kernel
theorem dksX0_divide_1 : cX0_divide.data.toList.drop 23 = dktX0_divide_1 := dk_seg dksX0_divide_0 23 rfl rfl
theorem dksX0_divide_2 : cX0_divide.data.toList.drop 45 = dktX0_divide_2 := dk_seg dksX0_divide_1 22 rfl rfl
theorem dksX0_divide_3 : cX0_divide.data.toList.drop 69 = dktX0_divide_3 := dk_seg dksX0_divide_2 24 rfl rfl
theorem dksX0_divide_4 : cX0_divide.data.toList.drop 92 = dktX0_divide_4 := dk_seg dksX0_divide_3 23 rfl rfl
theorem dksX0_divide_5 : cX0_divide.data.toList.drop 116 = dktX0_divide_5 := dk_seg dksX0_divide_4 24 rfl rfl
theorem dksX0_divide_6 : cX0_divide.data.toList.drop 140 = dktX0_divide_6 := dk_seg dksX0_divide_5 24 rfl rfl
theorem dX0_divide_0 : decode cX0_divide 0 = .ok (.iload_n 1, 1) := dk_27 (dk_at dksX0_divide_0 0 rfl rfl)
theorem dX0_divide_1 : decode cX0_divide 1 = .ok (.invokestatic 128, 3) := dk_184 0 128 (dk_at dksX0_divide_0 1 rfl rfl)
theorem dX0_divide_4 : decode cX0_divide 4 = .ok (.ifCond .eq 38, 3) := dk_153 0 38 (dk_at dksX0_divide_0 4 rfl rfl)
theorem dX0_divide_7 : decode cX0_divide 7 = .ok (.iload_n 2, 1) := dk_28 (dk_at dksX0_divide_0 7 rfl rfl)
theorem dX0_divide_8 : decode cX0_divide 8 = .ok (.invokestatic 128, 3) := dk_184 0 128 (dk_at dksX0_divide_0 8 rfl rfl)
theorem dX0_divide_11 : decode cX0_divide 11 = .ok (.ifCond .eq 31, 3) := dk_153 0 31 (dk_at dksX0_divide_0 11 rfl rfl)
theorem dX0_divide_14 : decode cX0_divide 14 = .ok (.iload_n 1, 1) := dk_27 (dk_at dksX0_divide_0 14 rfl rfl)
theorem dX0_divide_15 : decode cX0_divide 15 = .ok (.iload_n 2, 1) := dk_28 (dk_at dksX0_divide_0 15 rfl rfl)
theorem dX0_divide_16 : decode cX0_divide 16 = .ok (.if_icmp .eq 26, 3) := dk_159 0 26 (dk_at dksX0_divide_0 16 rfl rfl)
theorem dX0_divide_19 : decode cX0_divide 19 = .ok (.iload_n 3, 1) := dk_29 (dk_at dksX0_divide_0 19 rfl rfl)
theorem dX0_divide_20 : decode cX0_divide 20 = .ok (.invokestatic 128, 3) := dk_184 0 128 (dk_at dksX0_divide_0 20 rfl rfl)
theorem dX0_divide_23 : decode cX0_divide 23 = .ok (.ifCond .eq 19, 3) := dk_153 0 19 (dk_at dksX0_divide_1 0 rfl rfl)
theorem dX0_divide_26 : decode cX0_divide 26 = .ok (.iload 4, 2) := dk_21 4 (dk_at dksX0_divide_1 3 rfl rfl)
theorem dX0_divide_28 : decode cX0_divide 28 = .ok (.invokestatic 128, 3) := dk_184 0 128 (dk_at dksX0_divide_1 5 rfl rfl)
theorem dX0_divide_31 : decode cX0_divide 31 = .ok (.ifCond .eq 11, 3) := dk_153 0 11 (dk_at dksX0_divide_1 8 rfl rfl)
theorem dX0_divide_34 : decode cX0_divide 34 = .ok (.iload 5, 2) := dk_21 5 (dk_at dksX0_divide_1 11 rfl rfl)
theorem dX0_divide_36 : decode cX0_divide 36 = .ok (.invokestatic 180, 3) := dk_184 0 180 (dk_at dksX0_divide_1 13 rfl rfl)
theorem dX0_divide_39 : decode cX0_divide 39 = .ok (.ifCond .ne 5, 3) := dk_154 0 5 (dk_at dksX0_divide_1 16 rfl rfl)
theorem dX0_divide_42 : decode cX0_divide 42 = .ok (.iconst (-1), 1) := dk_2 (dk_at dksX0_divide_1 19 rfl rfl)
theorem dX0_divide_43 : decode cX0_divide 43 = .ok (.ireturn, 1) := dk_172 (dk_at dksX0_divide_1 20 rfl rfl)
theorem dX0_divide_44 : decode cX0_divide 44 = .ok (.aload_n 0, 1) := dk_42 (dk_at dksX0_divide_1 21 rfl rfl)
theorem dX0_divide_45 : decode cX0_divide 45 = .ok (.getfield 117, 3) := dk_180 0 117 (dk_at dksX0_divide_2 0 rfl rfl)
theorem dX0_divide_48 : decode cX0_divide 48 = .ok (.iload_n 3, 1) := dk_29 (dk_at dksX0_divide_2 3 rfl rfl)
theorem dX0_divide_49 : decode cX0_divide 49 = .ok (.aaload, 1) := dk_50 (dk_at dksX0_divide_2 4 rfl rfl)
theorem dX0_divide_50 : decode cX0_divide 50 = .ok (.astore 6, 2) := dk_58 6 (dk_at dksX0_divide_2 5 rfl rfl)
theorem dX0_divide_52 : decode cX0_divide 52 = .ok (.aload_n 0, 1) := dk_42 (dk_at dksX0_divide_2 7 rfl rfl)
theorem dX0_divide_53 : decode cX0_divide 53 = .ok (.getfield 117, 3) := dk_180 0 117 (dk_at dksX0_divide_2 8 rfl rfl)
theorem dX0_divide_56 : decode cX0_divide 56 = .ok (.iload 4, 2) := dk_21 4 (dk_at dksX0_divide_2 11 rfl rfl)
theorem dX0_divide_58 : decode cX0_divide 58 = .ok (.aaload, 1) := dk_50 (dk_at dksX0_divide_2 13 rfl rfl)
theorem dX0_divide_59 : decode cX0_divide 59 = .ok (.astore 7, 2) := dk_58 7 (dk_at dksX0_divide_2 14 rfl rfl)
theorem dX0_divide_61 : decode cX0_divide 61 = .ok (.aload 7, 2) := dk_25 7 (dk_at dksX0_divide_2 16 rfl rfl)
theorem dX0_divide_63 : decode cX0_divide 63 = .ok (.invokevirtual 187, 3) := dk_182 0 187 (dk_at dksX0_divide_2 18 rfl rfl)
theorem dX0_divide_66 : decode cX0_divide 66 = .ok (.ifCond .eq 6, 3) := dk_153 0 6 (dk_at dksX0_divide_2 21 rfl rfl)
theorem dX0_divide_69 : decode cX0_divide 69 = .ok (.bipush (-2), 2) := dk_16 254 (dk_at dksX0_divide_3 0 rfl rfl)
theorem dX0_divide_71 : decode cX0_divide 71 = .ok (.ireturn, 1) := dk_172 (dk_at dksX0_divide_3 2 rfl rfl)
theorem dX0_divide_72 : decode cX0_divide 72 = .ok (.aload_n 0, 1) := dk_42 (dk_at dksX0_divide_3 3 rfl rfl)
theorem dX0_divide_73 : decode cX0_divide 73 = .ok (.getfield 110, 3) := dk_180 0 110 (dk_at dksX0_divide_3 4 rfl rfl)
theorem dX0_divide_76 : decode cX0_divide 76 = .ok (.iload 5, 2) := dk_21 5 (dk_at dksX0_divide_3 7 rfl rfl)
theorem dX0_divide_78 : decode cX0_divide 78 = .ok (.aaload, 1) := dk_50 (dk_at dksX0_divide_3 9 rfl rfl)
theorem dX0_divide_79 : decode cX0_divide 79 = .ok (.aload 6, 2) := dk_25 6 (dk_at dksX0_divide_3 10 rfl rfl)
theorem dX0_divide_81 : decode cX0_divide 81 = .ok (.aload 7, 2) := dk_25 7 (dk_at dksX0_divide_3 12 rfl rfl)
theorem dX0_divide_83 : decode cX0_divide 83 = .ok (.invokevirtual 190, 3) := dk_182 0 190 (dk_at dksX0_divide_3 14 rfl rfl)
theorem dX0_divide_86 : decode cX0_divide 86 = .ok (.astore 8, 2) := dk_58 8 (dk_at dksX0_divide_3 17 rfl rfl)
theorem dX0_divide_88 : decode cX0_divide 88 = .ok (.aload_n 0, 1) := dk_42 (dk_at dksX0_divide_3 19 rfl rfl)
theorem dX0_divide_89 : decode cX0_divide 89 = .ok (.getfield 110, 3) := dk_180 0 110 (dk_at dksX0_divide_3 20 rfl rfl)
theorem dX0_divide_92 : decode cX0_divide 92 = .ok (.iload 5, 2) := dk_21 5 (dk_at dksX0_divide_4 0 rfl rfl)
theorem dX0_divide_94 : decode cX0_divide 94 = .ok (.aaload, 1) := dk_50 (dk_at dksX0_divide_4 2 rfl rfl)
theorem dX0_divide_95 : decode cX0_divide 95 = .ok (.aload 6, 2) := dk_25 6 (dk_at dksX0_divide_4 3 rfl rfl)
theorem dX0_divide_97 : decode cX0_divide 97 = .ok (.aload 8, 2) := dk_25 8 (dk_at dksX0_divide_4 5 rfl rfl)
theorem dX0_divide_99 : decode cX0_divide 99 = .ok (.aload 7, 2) := dk_25 7 (dk_at dksX0_divide_4 7 rfl rfl)
theorem dX0_divide_101 : decode cX0_divide 101 = .ok (.invokevirtual 193, 3) := dk_182 0 193 (dk_at dksX0_divide_4 9 rfl rfl)
theorem dX0_divide_104 : decode cX0_divide 104 = .ok (.astore 9, 2) := dk_58 9 (dk_at dksX0_divide_4 12 rfl rfl)
theorem dX0_divide_106 : decode cX0_divide 106 = .ok (.aload 8, 2) := dk_25 8 (dk_at dksX0_divide_4 14 rfl rfl)
theorem dX0_divide_108 : decode cX0_divide 108 = .ok (.invokevirtual 124, 3) := dk_182 0 124 (dk_at dksX0_divide_4 16 rfl rfl)
theorem dX0_divide_111 : decode cX0_divide 111 = .ok (.ifCond .ne 6, 3) := dk_154 0 6 (dk_at dksX0_divide_4 19 rfl rfl)
theorem dX0_divide_114 : decode cX0_divide 114 = .ok (.bipush (-3), 2) := dk_16 253 (dk_at dksX0_divide_4 22 rfl rfl)
theorem dX0_divide_116 : decode cX0_divide 116 = .ok (.ireturn, 1) := dk_172 (dk_at dksX0_divide_5 0 rfl rfl)
theorem dX0_divide_117 : decode cX0_divide 117 = .ok (.aload_n 0, 1) := dk_42 (dk_at dksX0_divide_5 1 rfl rfl)
theorem dX0_divide_118 : decode cX0_divide 118 = .ok (.iload_n 2, 1) := dk_28 (dk_at dksX0_divide_5 2 rfl rfl)
theorem dX0_divide_119 : decode cX0_divide 119 = .ok (.aload 9, 2) := dk_25 9 (dk_at dksX0_divide_5 3 rfl rfl)
theorem dX0_divide_121 : decode cX0_divide 121 = .ok (.invokevirtual 137, 3) := dk_182 0 137 (dk_at dksX0_divide_5 5 rfl rfl)
theorem dX0_divide_124 : decode cX0_divide 124 = .ok (.istore 10, 2) := dk_54 10 (dk_at dksX0_divide_5 8 rfl rfl)
theorem dX0_divide_126 : decode cX0_divide 126 = .ok (.iload 10, 2) := dk_21 10 (dk_at dksX0_divide_5 10 rfl rfl)
theorem dX0_divide_128 : decode cX0_divide 128 = .ok (.ifCond .ge 8, 3) := dk_156 0 8 (dk_at dksX0_divide_5 12 rfl rfl)
theorem dX0_divide_131 : decode cX0_divide 131 = .ok (.iload 10, 2) := dk_21 10 (dk_at dksX0_divide_5 15 rfl rfl)
theorem dX0_divide_133 : decode cX0_divide 133 = .ok (.goto 10, 3) := dk_167 0 10 (dk_at dksX0_divide_5 17 rfl rfl)
theorem dX0_divide_136 : decode cX0_divide 136 = .ok (.aload_n 0, 1) := dk_42 (dk_at dksX0_divide_5 20 rfl rfl)
theorem dX0_divide_137 : decode cX0_divide 137 = .ok (.iload_n 1, 1) := dk_27 (dk_at dksX0_divide_5 21 rfl rfl)
theorem dX0_divide_138 : decode cX0_divide 138 = .ok (.aload 8, 2) := dk_25 8 (dk_at dksX0_divide_5 22 rfl rfl)
theorem dX0_divide_140 : decode cX0_divide 140 = .ok (.invokevirtual 137, 3) := dk_182 0 137 (dk_at dksX0_divide_6 0 rfl rfl)
theorem dX0_divide_143 : decode cX0_divide 143 = .ok (.ireturn, 1) := dk_172 (dk_at dksX0_divide_6 3 rfl rfl)
abbrev cX0_divisor : ByteArray := prog_1_method_25_code
def yX0_divisor : MethodName := ⟨RX0, "divisor", "(IIII)I"⟩
def dkwX0_divisor_4 : List UInt8 := [156, 0, 8, 16, 253, 167, 0, 9, 25, 5, 182, 0, 154, 136, 172]
abbrev dktX0_divisor_4 : List UInt8 := dkwX0_divisor_4 ++ []
def dkwX0_divisor_3 : List UInt8 := [42, 180, 0, 117, 29, 50, 42, 180, 0, 99, 182, 0, 197, 58, 5, 42, 27, 25, 5, 182, 0, 137]
abbrev dktX0_divisor_3 : List UInt8 := dkwX0_divisor_3 ++ dktX0_divisor_4
def dkwX0_divisor_2 : List UInt8 := [29, 50, 182, 0, 187, 153, 0, 6, 16, 254, 172, 42, 180, 0, 110, 21, 4, 50, 42, 180, 0, 117, 28, 50]
abbrev dktX0_divisor_2 : List UInt8 := dkwX0_divisor_2 ++ dktX0_divisor_3
def dkwX0_divisor_1 : List UInt8 := [184, 0, 180, 154, 0, 5, 2, 172, 42, 180, 0, 117, 28, 50, 182, 0, 187, 153, 0, 18, 42, 180, 0, 117]
abbrev dktX0_divisor_1 : List UInt8 := dkwX0_divisor_1 ++ dktX0_divisor_2
def dkwX0_divisor_0 : List UInt8 := [27, 184, 0, 128, 153, 0, 25, 28, 184, 0, 128, 153, 0, 18, 29, 184, 0, 128, 153, 0, 11, 21, 4]
abbrev dktX0_divisor_0 : List UInt8 := dkwX0_divisor_0 ++ dktX0_divisor_1
theorem dksX0_divisor_0 : cX0_divisor.data.toList.drop 0 = dktX0_divisor_0 := by decide +kernel
theorem dksX0_divisor_1 : cX0_divisor.data.toList.drop 23 = dktX0_divisor_1 := dk_seg dksX0_divisor_0 23 rfl rfl
theorem dksX0_divisor_2 : cX0_divisor.data.toList.drop 47 = dktX0_divisor_2 := dk_seg dksX0_divisor_1 24 rfl rfl
theorem dksX0_divisor_3 : cX0_divisor.data.toList.drop 71 = dktX0_divisor_3 := dk_seg dksX0_divisor_2 24 rfl rfl
theorem dksX0_divisor_4 : cX0_divisor.data.toList.drop 93 = dktX0_divisor_4 := dk_seg dksX0_divisor_3 22 rfl rfl
theorem dX0_divisor_0 : decode cX0_divisor 0 = .ok (.iload_n 1, 1) := dk_27 (dk_at dksX0_divisor_0 0 rfl rfl)
theorem dX0_divisor_1 : decode cX0_divisor 1 = .ok (.invokestatic 128, 3) := dk_184 0 128 (dk_at dksX0_divisor_0 1 rfl rfl)
theorem dX0_divisor_4 : decode cX0_divisor 4 = .ok (.ifCond .eq 25, 3) := dk_153 0 25 (dk_at dksX0_divisor_0 4 rfl rfl)
theorem dX0_divisor_7 : decode cX0_divisor 7 = .ok (.iload_n 2, 1) := dk_28 (dk_at dksX0_divisor_0 7 rfl rfl)
theorem dX0_divisor_8 : decode cX0_divisor 8 = .ok (.invokestatic 128, 3) := dk_184 0 128 (dk_at dksX0_divisor_0 8 rfl rfl)
theorem dX0_divisor_11 : decode cX0_divisor 11 = .ok (.ifCond .eq 18, 3) := dk_153 0 18 (dk_at dksX0_divisor_0 11 rfl rfl)
theorem dX0_divisor_14 : decode cX0_divisor 14 = .ok (.iload_n 3, 1) := dk_29 (dk_at dksX0_divisor_0 14 rfl rfl)
theorem dX0_divisor_15 : decode cX0_divisor 15 = .ok (.invokestatic 128, 3) := dk_184 0 128 (dk_at dksX0_divisor_0 15 rfl rfl)
theorem dX0_divisor_18 : decode cX0_divisor 18 = .ok (.ifCond .eq 11, 3) := dk_153 0 11 (dk_at dksX0_divisor_0 18 rfl rfl)
theorem dX0_divisor_21 : decode cX0_divisor 21 = .ok (.iload 4, 2) := dk_21 4 (dk_at dksX0_divisor_0 21 rfl rfl)
theorem dX0_divisor_23 : decode cX0_divisor 23 = .ok (.invokestatic 180, 3) := dk_184 0 180 (dk_at dksX0_divisor_1 0 rfl rfl)
theorem dX0_divisor_26 : decode cX0_divisor 26 = .ok (.ifCond .ne 5, 3) := dk_154 0 5 (dk_at dksX0_divisor_1 3 rfl rfl)
theorem dX0_divisor_29 : decode cX0_divisor 29 = .ok (.iconst (-1), 1) := dk_2 (dk_at dksX0_divisor_1 6 rfl rfl)
theorem dX0_divisor_30 : decode cX0_divisor 30 = .ok (.ireturn, 1) := dk_172 (dk_at dksX0_divisor_1 7 rfl rfl)
theorem dX0_divisor_31 : decode cX0_divisor 31 = .ok (.aload_n 0, 1) := dk_42 (dk_at dksX0_divisor_1 8 rfl rfl)
theorem dX0_divisor_32 : decode cX0_divisor 32 = .ok (.getfield 117, 3) := dk_180 0 117 (dk_at dksX0_divisor_1 9 rfl rfl)
theorem dX0_divisor_35 : decode cX0_divisor 35 = .ok (.iload_n 2, 1) := dk_28 (dk_at dksX0_divisor_1 12 rfl rfl)
theorem dX0_divisor_36 : decode cX0_divisor 36 = .ok (.aaload, 1) := dk_50 (dk_at dksX0_divisor_1 13 rfl rfl)
theorem dX0_divisor_37 : decode cX0_divisor 37 = .ok (.invokevirtual 187, 3) := dk_182 0 187 (dk_at dksX0_divisor_1 14 rfl rfl)
theorem dX0_divisor_40 : decode cX0_divisor 40 = .ok (.ifCond .eq 18, 3) := dk_153 0 18 (dk_at dksX0_divisor_1 17 rfl rfl)
theorem dX0_divisor_43 : decode cX0_divisor 43 = .ok (.aload_n 0, 1) := dk_42 (dk_at dksX0_divisor_1 20 rfl rfl)
theorem dX0_divisor_44 : decode cX0_divisor 44 = .ok (.getfield 117, 3) := dk_180 0 117 (dk_at dksX0_divisor_1 21 rfl rfl)
theorem dX0_divisor_47 : decode cX0_divisor 47 = .ok (.iload_n 3, 1) := dk_29 (dk_at dksX0_divisor_2 0 rfl rfl)
theorem dX0_divisor_48 : decode cX0_divisor 48 = .ok (.aaload, 1) := dk_50 (dk_at dksX0_divisor_2 1 rfl rfl)
theorem dX0_divisor_49 : decode cX0_divisor 49 = .ok (.invokevirtual 187, 3) := dk_182 0 187 (dk_at dksX0_divisor_2 2 rfl rfl)
theorem dX0_divisor_52 : decode cX0_divisor 52 = .ok (.ifCond .eq 6, 3) := dk_153 0 6 (dk_at dksX0_divisor_2 5 rfl rfl)
theorem dX0_divisor_55 : decode cX0_divisor 55 = .ok (.bipush (-2), 2) := dk_16 254 (dk_at dksX0_divisor_2 8 rfl rfl)
theorem dX0_divisor_57 : decode cX0_divisor 57 = .ok (.ireturn, 1) := dk_172 (dk_at dksX0_divisor_2 10 rfl rfl)
theorem dX0_divisor_58 : decode cX0_divisor 58 = .ok (.aload_n 0, 1) := dk_42 (dk_at dksX0_divisor_2 11 rfl rfl)
theorem dX0_divisor_59 : decode cX0_divisor 59 = .ok (.getfield 110, 3) := dk_180 0 110 (dk_at dksX0_divisor_2 12 rfl rfl)
theorem dX0_divisor_62 : decode cX0_divisor 62 = .ok (.iload 4, 2) := dk_21 4 (dk_at dksX0_divisor_2 15 rfl rfl)
theorem dX0_divisor_64 : decode cX0_divisor 64 = .ok (.aaload, 1) := dk_50 (dk_at dksX0_divisor_2 17 rfl rfl)
theorem dX0_divisor_65 : decode cX0_divisor 65 = .ok (.aload_n 0, 1) := dk_42 (dk_at dksX0_divisor_2 18 rfl rfl)
theorem dX0_divisor_66 : decode cX0_divisor 66 = .ok (.getfield 117, 3) := dk_180 0 117 (dk_at dksX0_divisor_2 19 rfl rfl)
theorem dX0_divisor_69 : decode cX0_divisor 69 = .ok (.iload_n 2, 1) := dk_28 (dk_at dksX0_divisor_2 22 rfl rfl)
theorem dX0_divisor_70 : decode cX0_divisor 70 = .ok (.aaload, 1) := dk_50 (dk_at dksX0_divisor_2 23 rfl rfl)
theorem dX0_divisor_71 : decode cX0_divisor 71 = .ok (.aload_n 0, 1) := dk_42 (dk_at dksX0_divisor_3 0 rfl rfl)
theorem dX0_divisor_72 : decode cX0_divisor 72 = .ok (.getfield 117, 3) := dk_180 0 117 (dk_at dksX0_divisor_3 1 rfl rfl)
theorem dX0_divisor_75 : decode cX0_divisor 75 = .ok (.iload_n 3, 1) := dk_29 (dk_at dksX0_divisor_3 4 rfl rfl)
theorem dX0_divisor_76 : decode cX0_divisor 76 = .ok (.aaload, 1) := dk_50 (dk_at dksX0_divisor_3 5 rfl rfl)
theorem dX0_divisor_77 : decode cX0_divisor 77 = .ok (.aload_n 0, 1) := dk_42 (dk_at dksX0_divisor_3 6 rfl rfl)
theorem dX0_divisor_78 : decode cX0_divisor 78 = .ok (.getfield 99, 3) := dk_180 0 99 (dk_at dksX0_divisor_3 7 rfl rfl)
theorem dX0_divisor_81 : decode cX0_divisor 81 = .ok (.invokevirtual 197, 3) := dk_182 0 197 (dk_at dksX0_divisor_3 10 rfl rfl)
theorem dX0_divisor_84 : decode cX0_divisor 84 = .ok (.astore 5, 2) := dk_58 5 (dk_at dksX0_divisor_3 13 rfl rfl)
theorem dX0_divisor_86 : decode cX0_divisor 86 = .ok (.aload_n 0, 1) := dk_42 (dk_at dksX0_divisor_3 15 rfl rfl)
theorem dX0_divisor_87 : decode cX0_divisor 87 = .ok (.iload_n 1, 1) := dk_27 (dk_at dksX0_divisor_3 16 rfl rfl)
theorem dX0_divisor_88 : decode cX0_divisor 88 = .ok (.aload 5, 2) := dk_25 5 (dk_at dksX0_divisor_3 17 rfl rfl)
theorem dX0_divisor_90 : decode cX0_divisor 90 = .ok (.invokevirtual 137, 3) := dk_182 0 137 (dk_at dksX0_divisor_3 19 rfl rfl)
theorem dX0_divisor_93 : decode cX0_divisor 93 = .ok (.ifCond .ge 8, 3) := dk_156 0 8 (dk_at dksX0_divisor_4 0 rfl rfl)
theorem dX0_divisor_96 : decode cX0_divisor 96 = .ok (.bipush (-3), 2) := dk_16 253 (dk_at dksX0_divisor_4 3 rfl rfl)
theorem dX0_divisor_98 : decode cX0_divisor 98 = .ok (.goto 9, 3) := dk_167 0 9 (dk_at dksX0_divisor_4 5 rfl rfl)
theorem dX0_divisor_101 : decode cX0_divisor 101 = .ok (.aload 5, 2) := dk_25 5 (dk_at dksX0_divisor_4 8 rfl rfl)
theorem dX0_divisor_103 : decode cX0_divisor 103 = .ok (.invokevirtual 154, 3) := dk_182 0 154 (dk_at dksX0_divisor_4 10 rfl rfl)
theorem dX0_divisor_106 : decode cX0_divisor 106 = .ok (.l2i, 1) := dk_136 (dk_at dksX0_divisor_4 13 rfl rfl)
theorem dX0_divisor_107 : decode cX0_divisor 107 = .ok (.ireturn, 1) := dk_172 (dk_at dksX0_divisor_4 14 rfl rfl)
abbrev cX0_like : ByteArray := prog_1_method_26_code
def yX0_like : MethodName := ⟨RX0, "like", "(III)I"⟩
def dkwX0_like_3 : List UInt8 := [172, 132, 4, 1, 167, 255, 206, 16, 252, 172]
abbrev dktX0_like_3 : List UInt8 := dkwX0_like_3 ++ []
def dkwX0_like_2 : List UInt8 := [42, 180, 0, 99, 21, 4, 50, 182, 0, 183, 42, 180, 0, 117, 28, 50, 182, 0, 148, 153, 0, 6, 21, 4]
abbrev dktX0_like_2 : List UInt8 := dkwX0_like_2 ++ dktX0_like_3
def dkwX0_like_1 : List UInt8 := [54, 4, 21, 4, 42, 180, 0, 99, 190, 162, 0, 46, 42, 180, 0, 110, 29, 50, 42, 180, 0, 117, 27, 50]
abbrev dktX0_like_1 : List UInt8 := dkwX0_like_1 ++ dktX0_like_2
def dkwX0_like_0 : List UInt8 := [27, 184, 0, 128, 153, 0, 17, 28, 184, 0, 128, 153, 0, 10, 29, 184, 0, 180, 154, 0, 5, 2, 172, 3]
abbrev dktX0_like_0 : List UInt8 := dkwX0_like_0 ++ dktX0_like_1
theorem dksX0_like_0 : cX0_like.data.toList.drop 0 = dktX0_like_0 := by decide +kernel
theorem dksX0_like_1 : cX0_like.data.toList.drop 24 = dktX0_like_1 := dk_seg dksX0_like_0 24 rfl rfl
theorem dksX0_like_2 : cX0_like.data.toList.drop 48 = dktX0_like_2 := dk_seg dksX0_like_1 24 rfl rfl
theorem dksX0_like_3 : cX0_like.data.toList.drop 72 = dktX0_like_3 := dk_seg dksX0_like_2 24 rfl rfl
theorem dX0_like_0 : decode cX0_like 0 = .ok (.iload_n 1, 1) := dk_27 (dk_at dksX0_like_0 0 rfl rfl)
theorem dX0_like_1 : decode cX0_like 1 = .ok (.invokestatic 128, 3) := dk_184 0 128 (dk_at dksX0_like_0 1 rfl rfl)
theorem dX0_like_4 : decode cX0_like 4 = .ok (.ifCond .eq 17, 3) := dk_153 0 17 (dk_at dksX0_like_0 4 rfl rfl)
theorem dX0_like_7 : decode cX0_like 7 = .ok (.iload_n 2, 1) := dk_28 (dk_at dksX0_like_0 7 rfl rfl)
theorem dX0_like_8 : decode cX0_like 8 = .ok (.invokestatic 128, 3) := dk_184 0 128 (dk_at dksX0_like_0 8 rfl rfl)
theorem dX0_like_11 : decode cX0_like 11 = .ok (.ifCond .eq 10, 3) := dk_153 0 10 (dk_at dksX0_like_0 11 rfl rfl)
theorem dX0_like_14 : decode cX0_like 14 = .ok (.iload_n 3, 1) := dk_29 (dk_at dksX0_like_0 14 rfl rfl)
theorem dX0_like_15 : decode cX0_like 15 = .ok (.invokestatic 180, 3) := dk_184 0 180 (dk_at dksX0_like_0 15 rfl rfl)
theorem dX0_like_18 : decode cX0_like 18 = .ok (.ifCond .ne 5, 3) := dk_154 0 5 (dk_at dksX0_like_0 18 rfl rfl)
theorem dX0_like_21 : decode cX0_like 21 = .ok (.iconst (-1), 1) := dk_2 (dk_at dksX0_like_0 21 rfl rfl)
theorem dX0_like_22 : decode cX0_like 22 = .ok (.ireturn, 1) := dk_172 (dk_at dksX0_like_0 22 rfl rfl)
theorem dX0_like_23 : decode cX0_like 23 = .ok (.iconst 0, 1) := dk_3 (dk_at dksX0_like_0 23 rfl rfl)
theorem dX0_like_24 : decode cX0_like 24 = .ok (.istore 4, 2) := dk_54 4 (dk_at dksX0_like_1 0 rfl rfl)
theorem dX0_like_26 : decode cX0_like 26 = .ok (.iload 4, 2) := dk_21 4 (dk_at dksX0_like_1 2 rfl rfl)
theorem dX0_like_28 : decode cX0_like 28 = .ok (.aload_n 0, 1) := dk_42 (dk_at dksX0_like_1 4 rfl rfl)
theorem dX0_like_29 : decode cX0_like 29 = .ok (.getfield 99, 3) := dk_180 0 99 (dk_at dksX0_like_1 5 rfl rfl)
theorem dX0_like_32 : decode cX0_like 32 = .ok (.arraylength, 1) := dk_190 (dk_at dksX0_like_1 8 rfl rfl)
theorem dX0_like_33 : decode cX0_like 33 = .ok (.if_icmp .ge 46, 3) := dk_162 0 46 (dk_at dksX0_like_1 9 rfl rfl)
theorem dX0_like_36 : decode cX0_like 36 = .ok (.aload_n 0, 1) := dk_42 (dk_at dksX0_like_1 12 rfl rfl)
theorem dX0_like_37 : decode cX0_like 37 = .ok (.getfield 110, 3) := dk_180 0 110 (dk_at dksX0_like_1 13 rfl rfl)
theorem dX0_like_40 : decode cX0_like 40 = .ok (.iload_n 3, 1) := dk_29 (dk_at dksX0_like_1 16 rfl rfl)
theorem dX0_like_41 : decode cX0_like 41 = .ok (.aaload, 1) := dk_50 (dk_at dksX0_like_1 17 rfl rfl)
theorem dX0_like_42 : decode cX0_like 42 = .ok (.aload_n 0, 1) := dk_42 (dk_at dksX0_like_1 18 rfl rfl)
theorem dX0_like_43 : decode cX0_like 43 = .ok (.getfield 117, 3) := dk_180 0 117 (dk_at dksX0_like_1 19 rfl rfl)
theorem dX0_like_46 : decode cX0_like 46 = .ok (.iload_n 1, 1) := dk_27 (dk_at dksX0_like_1 22 rfl rfl)
theorem dX0_like_47 : decode cX0_like 47 = .ok (.aaload, 1) := dk_50 (dk_at dksX0_like_1 23 rfl rfl)
theorem dX0_like_48 : decode cX0_like 48 = .ok (.aload_n 0, 1) := dk_42 (dk_at dksX0_like_2 0 rfl rfl)
theorem dX0_like_49 : decode cX0_like 49 = .ok (.getfield 99, 3) := dk_180 0 99 (dk_at dksX0_like_2 1 rfl rfl)
theorem dX0_like_52 : decode cX0_like 52 = .ok (.iload 4, 2) := dk_21 4 (dk_at dksX0_like_2 4 rfl rfl)
theorem dX0_like_54 : decode cX0_like 54 = .ok (.aaload, 1) := dk_50 (dk_at dksX0_like_2 6 rfl rfl)
theorem dX0_like_55 : decode cX0_like 55 = .ok (.invokevirtual 183, 3) := dk_182 0 183 (dk_at dksX0_like_2 7 rfl rfl)
theorem dX0_like_58 : decode cX0_like 58 = .ok (.aload_n 0, 1) := dk_42 (dk_at dksX0_like_2 10 rfl rfl)
theorem dX0_like_59 : decode cX0_like 59 = .ok (.getfield 117, 3) := dk_180 0 117 (dk_at dksX0_like_2 11 rfl rfl)
theorem dX0_like_62 : decode cX0_like 62 = .ok (.iload_n 2, 1) := dk_28 (dk_at dksX0_like_2 14 rfl rfl)
theorem dX0_like_63 : decode cX0_like 63 = .ok (.aaload, 1) := dk_50 (dk_at dksX0_like_2 15 rfl rfl)
theorem dX0_like_64 : decode cX0_like 64 = .ok (.invokevirtual 148, 3) := dk_182 0 148 (dk_at dksX0_like_2 16 rfl rfl)
theorem dX0_like_67 : decode cX0_like 67 = .ok (.ifCond .eq 6, 3) := dk_153 0 6 (dk_at dksX0_like_2 19 rfl rfl)
theorem dX0_like_70 : decode cX0_like 70 = .ok (.iload 4, 2) := dk_21 4 (dk_at dksX0_like_2 22 rfl rfl)
theorem dX0_like_72 : decode cX0_like 72 = .ok (.ireturn, 1) := dk_172 (dk_at dksX0_like_3 0 rfl rfl)
theorem dX0_like_73 : decode cX0_like 73 = .ok (.iinc 4 1, 3) := dk_132 4 1 (dk_at dksX0_like_3 1 rfl rfl)
theorem dX0_like_76 : decode cX0_like 76 = .ok (.goto (-50), 3) := dk_167 255 206 (dk_at dksX0_like_3 4 rfl rfl)
theorem dX0_like_79 : decode cX0_like 79 = .ok (.bipush (-4), 2) := dk_16 252 (dk_at dksX0_like_3 7 rfl rfl)
theorem dX0_like_81 : decode cX0_like 81 = .ok (.ireturn, 1) := dk_172 (dk_at dksX0_like_3 9 rfl rfl)
abbrev cX0_way : ByteArray := prog_1_method_29_code
def yX0_way : MethodName := ⟨RX0, "way", "(IIII)I"⟩
def dkwX0_way_10 : List UInt8 := [4, 100, 25, 6, 83, 21, 4, 172]
abbrev dktX0_way_10 : List UInt8 := dkwX0_way_10 ++ []
def dkwX0_way_9 : List UInt8 := [42, 180, 0, 119, 21, 7, 50, 182, 0, 190, 58, 6, 132, 7, 1, 167, 255, 183, 42, 180, 0, 119, 21, 4]
abbrev dktX0_way_9 : List UInt8 := dkwX0_way_9 ++ dktX0_way_10
def dkwX0_way_8 : List UInt8 := [9, 9, 9, 183, 0, 59, 25, 6, 42, 180, 0, 99, 182, 0, 197, 83, 42, 180, 0, 110, 4, 50, 25, 6]
abbrev dktX0_way_8 : List UInt8 := dkwX0_way_8 ++ dktX0_way_9
def dkwX0_way_7 : List UInt8 := [180, 0, 119, 21, 7, 42, 180, 0, 110, 4, 50, 187, 0, 57, 89, 20, 0, 15, 25, 5, 21, 7, 47, 105]
abbrev dktX0_way_7 : List UInt8 := dkwX0_way_7 ++ dktX0_way_8
def dkwX0_way_6 : List UInt8 := [42, 21, 4, 189, 0, 57, 181, 0, 119, 3, 54, 7, 21, 7, 21, 4, 4, 100, 162, 0, 70, 42]
abbrev dktX0_way_6 : List UInt8 := dkwX0_way_6 ++ dktX0_way_7
def dkwX0_way_5 : List UInt8 := [25, 6, 182, 0, 157, 153, 0, 16, 25, 5, 25, 6, 182, 0, 154, 184, 0, 205, 156, 0, 6, 16, 254, 172]
abbrev dktX0_way_5 : List UInt8 := dkwX0_way_5 ++ dktX0_way_6
def dkwX0_way_4 : List UInt8 := [167, 255, 228, 167, 0, 13, 58, 6, 16, 245, 172, 58, 6, 16, 243, 172, 42, 180, 0, 117, 27, 50, 58, 6]
abbrev dktX0_way_4 : List UInt8 := dkwX0_way_4 ++ dktX0_way_5
def dkwX0_way_3 : List UInt8 := [162, 0, 27, 25, 5, 21, 7, 42, 180, 0, 17, 28, 50, 29, 21, 7, 96, 184, 0, 131, 80, 132, 7, 1]
abbrev dktX0_way_3 : List UInt8 := dkwX0_way_3 ++ dktX0_way_4
def dkwX0_way_2 : List UInt8 := [155, 0, 12, 29, 21, 6, 21, 4, 100, 164, 0, 6, 16, 244, 172, 3, 54, 7, 21, 7, 21, 4]
abbrev dktX0_way_2 : List UInt8 := dkwX0_way_2 ++ dktX0_way_3
def dkwX0_way_1 : List UInt8 := [164, 0, 5, 2, 172, 42, 180, 0, 17, 28, 50, 184, 0, 141, 54, 6, 21, 4, 188, 11, 58, 5, 29]
abbrev dktX0_way_1 : List UInt8 := dkwX0_way_1 ++ dktX0_way_2
def dkwX0_way_0 : List UInt8 := [27, 184, 0, 128, 153, 0, 22, 28, 184, 0, 9, 153, 0, 15, 21, 4, 153, 0, 10, 21, 4, 16, 12]
abbrev dktX0_way_0 : List UInt8 := dkwX0_way_0 ++ dktX0_way_1
theorem dksX0_way_0 : cX0_way.data.toList.drop 0 = dktX0_way_0 := by decide +kernel
theorem dksX0_way_1 : cX0_way.data.toList.drop 23 = dktX0_way_1 := dk_seg dksX0_way_0 23 rfl rfl
theorem dksX0_way_2 : cX0_way.data.toList.drop 46 = dktX0_way_2 := dk_seg dksX0_way_1 23 rfl rfl
theorem dksX0_way_3 : cX0_way.data.toList.drop 68 = dktX0_way_3 := dk_seg dksX0_way_2 22 rfl rfl
theorem dksX0_way_4 : cX0_way.data.toList.drop 92 = dktX0_way_4 := dk_seg dksX0_way_3 24 rfl rfl
theorem dksX0_way_5 : cX0_way.data.toList.drop 116 = dktX0_way_5 := dk_seg dksX0_way_4 24 rfl rfl
theorem dksX0_way_6 : cX0_way.data.toList.drop 140 = dktX0_way_6 := dk_seg dksX0_way_5 24 rfl rfl
theorem dksX0_way_7 : cX0_way.data.toList.drop 162 = dktX0_way_7 := dk_seg dksX0_way_6 22 rfl rfl
theorem dksX0_way_8 : cX0_way.data.toList.drop 186 = dktX0_way_8 := dk_seg dksX0_way_7 24 rfl rfl
theorem dksX0_way_9 : cX0_way.data.toList.drop 210 = dktX0_way_9 := dk_seg dksX0_way_8 24 rfl rfl
theorem dksX0_way_10 : cX0_way.data.toList.drop 234 = dktX0_way_10 := dk_seg dksX0_way_9 24 rfl rfl
theorem dX0_way_0 : decode cX0_way 0 = .ok (.iload_n 1, 1) := dk_27 (dk_at dksX0_way_0 0 rfl rfl)
theorem dX0_way_1 : decode cX0_way 1 = .ok (.invokestatic 128, 3) := dk_184 0 128 (dk_at dksX0_way_0 1 rfl rfl)
theorem dX0_way_4 : decode cX0_way 4 = .ok (.ifCond .eq 22, 3) := dk_153 0 22 (dk_at dksX0_way_0 4 rfl rfl)
theorem dX0_way_7 : decode cX0_way 7 = .ok (.iload_n 2, 1) := dk_28 (dk_at dksX0_way_0 7 rfl rfl)
theorem dX0_way_8 : decode cX0_way 8 = .ok (.invokestatic 9, 3) := dk_184 0 9 (dk_at dksX0_way_0 8 rfl rfl)
theorem dX0_way_11 : decode cX0_way 11 = .ok (.ifCond .eq 15, 3) := dk_153 0 15 (dk_at dksX0_way_0 11 rfl rfl)
theorem dX0_way_14 : decode cX0_way 14 = .ok (.iload 4, 2) := dk_21 4 (dk_at dksX0_way_0 14 rfl rfl)
theorem dX0_way_16 : decode cX0_way 16 = .ok (.ifCond .eq 10, 3) := dk_153 0 10 (dk_at dksX0_way_0 16 rfl rfl)
theorem dX0_way_19 : decode cX0_way 19 = .ok (.iload 4, 2) := dk_21 4 (dk_at dksX0_way_0 19 rfl rfl)
theorem dX0_way_21 : decode cX0_way 21 = .ok (.bipush 12, 2) := dk_16 12 (dk_at dksX0_way_0 21 rfl rfl)
theorem dX0_way_23 : decode cX0_way 23 = .ok (.if_icmp .le 5, 3) := dk_164 0 5 (dk_at dksX0_way_1 0 rfl rfl)
theorem dX0_way_26 : decode cX0_way 26 = .ok (.iconst (-1), 1) := dk_2 (dk_at dksX0_way_1 3 rfl rfl)
theorem dX0_way_27 : decode cX0_way 27 = .ok (.ireturn, 1) := dk_172 (dk_at dksX0_way_1 4 rfl rfl)
theorem dX0_way_28 : decode cX0_way 28 = .ok (.aload_n 0, 1) := dk_42 (dk_at dksX0_way_1 5 rfl rfl)
theorem dX0_way_29 : decode cX0_way 29 = .ok (.getfield 17, 3) := dk_180 0 17 (dk_at dksX0_way_1 6 rfl rfl)
theorem dX0_way_32 : decode cX0_way 32 = .ok (.iload_n 2, 1) := dk_28 (dk_at dksX0_way_1 9 rfl rfl)
theorem dX0_way_33 : decode cX0_way 33 = .ok (.aaload, 1) := dk_50 (dk_at dksX0_way_1 10 rfl rfl)
theorem dX0_way_34 : decode cX0_way 34 = .ok (.invokestatic 141, 3) := dk_184 0 141 (dk_at dksX0_way_1 11 rfl rfl)
theorem dX0_way_37 : decode cX0_way 37 = .ok (.istore 6, 2) := dk_54 6 (dk_at dksX0_way_1 14 rfl rfl)
theorem dX0_way_39 : decode cX0_way 39 = .ok (.iload 4, 2) := dk_21 4 (dk_at dksX0_way_1 16 rfl rfl)
theorem dX0_way_41 : decode cX0_way 41 = .ok (.newarray .long, 2) := dk_188_11 (dk_at dksX0_way_1 18 rfl rfl)
theorem dX0_way_43 : decode cX0_way 43 = .ok (.astore 5, 2) := dk_58 5 (dk_at dksX0_way_1 20 rfl rfl)
theorem dX0_way_45 : decode cX0_way 45 = .ok (.iload_n 3, 1) := dk_29 (dk_at dksX0_way_1 22 rfl rfl)
theorem dX0_way_46 : decode cX0_way 46 = .ok (.ifCond .lt 12, 3) := dk_155 0 12 (dk_at dksX0_way_2 0 rfl rfl)
theorem dX0_way_49 : decode cX0_way 49 = .ok (.iload_n 3, 1) := dk_29 (dk_at dksX0_way_2 3 rfl rfl)
theorem dX0_way_50 : decode cX0_way 50 = .ok (.iload 6, 2) := dk_21 6 (dk_at dksX0_way_2 4 rfl rfl)
theorem dX0_way_52 : decode cX0_way 52 = .ok (.iload 4, 2) := dk_21 4 (dk_at dksX0_way_2 6 rfl rfl)
theorem dX0_way_54 : decode cX0_way 54 = .ok (.isub, 1) := dk_100 (dk_at dksX0_way_2 8 rfl rfl)
theorem dX0_way_55 : decode cX0_way 55 = .ok (.if_icmp .le 6, 3) := dk_164 0 6 (dk_at dksX0_way_2 9 rfl rfl)
theorem dX0_way_58 : decode cX0_way 58 = .ok (.bipush (-12), 2) := dk_16 244 (dk_at dksX0_way_2 12 rfl rfl)
theorem dX0_way_60 : decode cX0_way 60 = .ok (.ireturn, 1) := dk_172 (dk_at dksX0_way_2 14 rfl rfl)
theorem dX0_way_61 : decode cX0_way 61 = .ok (.iconst 0, 1) := dk_3 (dk_at dksX0_way_2 15 rfl rfl)
theorem dX0_way_62 : decode cX0_way 62 = .ok (.istore 7, 2) := dk_54 7 (dk_at dksX0_way_2 16 rfl rfl)
theorem dX0_way_64 : decode cX0_way 64 = .ok (.iload 7, 2) := dk_21 7 (dk_at dksX0_way_2 18 rfl rfl)
theorem dX0_way_66 : decode cX0_way 66 = .ok (.iload 4, 2) := dk_21 4 (dk_at dksX0_way_2 20 rfl rfl)
theorem dX0_way_68 : decode cX0_way 68 = .ok (.if_icmp .ge 27, 3) := dk_162 0 27 (dk_at dksX0_way_3 0 rfl rfl)
theorem dX0_way_71 : decode cX0_way 71 = .ok (.aload 5, 2) := dk_25 5 (dk_at dksX0_way_3 3 rfl rfl)
theorem dX0_way_73 : decode cX0_way 73 = .ok (.iload 7, 2) := dk_21 7 (dk_at dksX0_way_3 5 rfl rfl)
theorem dX0_way_75 : decode cX0_way 75 = .ok (.aload_n 0, 1) := dk_42 (dk_at dksX0_way_3 7 rfl rfl)
theorem dX0_way_76 : decode cX0_way 76 = .ok (.getfield 17, 3) := dk_180 0 17 (dk_at dksX0_way_3 8 rfl rfl)
theorem dX0_way_79 : decode cX0_way 79 = .ok (.iload_n 2, 1) := dk_28 (dk_at dksX0_way_3 11 rfl rfl)
theorem dX0_way_80 : decode cX0_way 80 = .ok (.aaload, 1) := dk_50 (dk_at dksX0_way_3 12 rfl rfl)
theorem dX0_way_81 : decode cX0_way 81 = .ok (.iload_n 3, 1) := dk_29 (dk_at dksX0_way_3 13 rfl rfl)
theorem dX0_way_82 : decode cX0_way 82 = .ok (.iload 7, 2) := dk_21 7 (dk_at dksX0_way_3 14 rfl rfl)
theorem dX0_way_84 : decode cX0_way 84 = .ok (.iadd, 1) := dk_96 (dk_at dksX0_way_3 16 rfl rfl)
theorem dX0_way_85 : decode cX0_way 85 = .ok (.invokestatic 131, 3) := dk_184 0 131 (dk_at dksX0_way_3 17 rfl rfl)
theorem dX0_way_88 : decode cX0_way 88 = .ok (.lastore, 1) := dk_80 (dk_at dksX0_way_3 20 rfl rfl)
theorem dX0_way_89 : decode cX0_way 89 = .ok (.iinc 7 1, 3) := dk_132 7 1 (dk_at dksX0_way_3 21 rfl rfl)
theorem dX0_way_92 : decode cX0_way 92 = .ok (.goto (-28), 3) := dk_167 255 228 (dk_at dksX0_way_4 0 rfl rfl)
theorem dX0_way_95 : decode cX0_way 95 = .ok (.goto 13, 3) := dk_167 0 13 (dk_at dksX0_way_4 3 rfl rfl)
theorem dX0_way_98 : decode cX0_way 98 = .ok (.astore 6, 2) := dk_58 6 (dk_at dksX0_way_4 6 rfl rfl)
theorem dX0_way_100 : decode cX0_way 100 = .ok (.bipush (-11), 2) := dk_16 245 (dk_at dksX0_way_4 8 rfl rfl)
theorem dX0_way_102 : decode cX0_way 102 = .ok (.ireturn, 1) := dk_172 (dk_at dksX0_way_4 10 rfl rfl)
theorem dX0_way_103 : decode cX0_way 103 = .ok (.astore 6, 2) := dk_58 6 (dk_at dksX0_way_4 11 rfl rfl)
theorem dX0_way_105 : decode cX0_way 105 = .ok (.bipush (-13), 2) := dk_16 243 (dk_at dksX0_way_4 13 rfl rfl)
theorem dX0_way_107 : decode cX0_way 107 = .ok (.ireturn, 1) := dk_172 (dk_at dksX0_way_4 15 rfl rfl)
theorem dX0_way_108 : decode cX0_way 108 = .ok (.aload_n 0, 1) := dk_42 (dk_at dksX0_way_4 16 rfl rfl)
theorem dX0_way_109 : decode cX0_way 109 = .ok (.getfield 117, 3) := dk_180 0 117 (dk_at dksX0_way_4 17 rfl rfl)
theorem dX0_way_112 : decode cX0_way 112 = .ok (.iload_n 1, 1) := dk_27 (dk_at dksX0_way_4 20 rfl rfl)
theorem dX0_way_113 : decode cX0_way 113 = .ok (.aaload, 1) := dk_50 (dk_at dksX0_way_4 21 rfl rfl)
theorem dX0_way_114 : decode cX0_way 114 = .ok (.astore 6, 2) := dk_58 6 (dk_at dksX0_way_4 22 rfl rfl)
theorem dX0_way_116 : decode cX0_way 116 = .ok (.aload 6, 2) := dk_25 6 (dk_at dksX0_way_5 0 rfl rfl)
theorem dX0_way_118 : decode cX0_way 118 = .ok (.invokevirtual 157, 3) := dk_182 0 157 (dk_at dksX0_way_5 2 rfl rfl)
theorem dX0_way_121 : decode cX0_way 121 = .ok (.ifCond .eq 16, 3) := dk_153 0 16 (dk_at dksX0_way_5 5 rfl rfl)
theorem dX0_way_124 : decode cX0_way 124 = .ok (.aload 5, 2) := dk_25 5 (dk_at dksX0_way_5 8 rfl rfl)
theorem dX0_way_126 : decode cX0_way 126 = .ok (.aload 6, 2) := dk_25 6 (dk_at dksX0_way_5 10 rfl rfl)
theorem dX0_way_128 : decode cX0_way 128 = .ok (.invokevirtual 154, 3) := dk_182 0 154 (dk_at dksX0_way_5 12 rfl rfl)
theorem dX0_way_131 : decode cX0_way 131 = .ok (.invokestatic 205, 3) := dk_184 0 205 (dk_at dksX0_way_5 15 rfl rfl)
theorem dX0_way_134 : decode cX0_way 134 = .ok (.ifCond .ge 6, 3) := dk_156 0 6 (dk_at dksX0_way_5 18 rfl rfl)
theorem dX0_way_137 : decode cX0_way 137 = .ok (.bipush (-2), 2) := dk_16 254 (dk_at dksX0_way_5 21 rfl rfl)
theorem dX0_way_139 : decode cX0_way 139 = .ok (.ireturn, 1) := dk_172 (dk_at dksX0_way_5 23 rfl rfl)
theorem dX0_way_140 : decode cX0_way 140 = .ok (.aload_n 0, 1) := dk_42 (dk_at dksX0_way_6 0 rfl rfl)
theorem dX0_way_141 : decode cX0_way 141 = .ok (.iload 4, 2) := dk_21 4 (dk_at dksX0_way_6 1 rfl rfl)
theorem dX0_way_143 : decode cX0_way 143 = .ok (.anewarray 57, 3) := dk_189 0 57 (dk_at dksX0_way_6 3 rfl rfl)
theorem dX0_way_146 : decode cX0_way 146 = .ok (.putfield 119, 3) := dk_181 0 119 (dk_at dksX0_way_6 6 rfl rfl)
theorem dX0_way_149 : decode cX0_way 149 = .ok (.iconst 0, 1) := dk_3 (dk_at dksX0_way_6 9 rfl rfl)
theorem dX0_way_150 : decode cX0_way 150 = .ok (.istore 7, 2) := dk_54 7 (dk_at dksX0_way_6 10 rfl rfl)
theorem dX0_way_152 : decode cX0_way 152 = .ok (.iload 7, 2) := dk_21 7 (dk_at dksX0_way_6 12 rfl rfl)
theorem dX0_way_154 : decode cX0_way 154 = .ok (.iload 4, 2) := dk_21 4 (dk_at dksX0_way_6 14 rfl rfl)
theorem dX0_way_156 : decode cX0_way 156 = .ok (.iconst 1, 1) := dk_4 (dk_at dksX0_way_6 16 rfl rfl)
theorem dX0_way_157 : decode cX0_way 157 = .ok (.isub, 1) := dk_100 (dk_at dksX0_way_6 17 rfl rfl)
theorem dX0_way_158 : decode cX0_way 158 = .ok (.if_icmp .ge 70, 3) := dk_162 0 70 (dk_at dksX0_way_6 18 rfl rfl)
theorem dX0_way_161 : decode cX0_way 161 = .ok (.aload_n 0, 1) := dk_42 (dk_at dksX0_way_6 21 rfl rfl)
theorem dX0_way_162 : decode cX0_way 162 = .ok (.getfield 119, 3) := dk_180 0 119 (dk_at dksX0_way_7 0 rfl rfl)
theorem dX0_way_165 : decode cX0_way 165 = .ok (.iload 7, 2) := dk_21 7 (dk_at dksX0_way_7 3 rfl rfl)
theorem dX0_way_167 : decode cX0_way 167 = .ok (.aload_n 0, 1) := dk_42 (dk_at dksX0_way_7 5 rfl rfl)
theorem dX0_way_168 : decode cX0_way 168 = .ok (.getfield 110, 3) := dk_180 0 110 (dk_at dksX0_way_7 6 rfl rfl)
theorem dX0_way_171 : decode cX0_way 171 = .ok (.iconst 1, 1) := dk_4 (dk_at dksX0_way_7 9 rfl rfl)
theorem dX0_way_172 : decode cX0_way 172 = .ok (.aaload, 1) := dk_50 (dk_at dksX0_way_7 10 rfl rfl)
theorem dX0_way_173 : decode cX0_way 173 = .ok (.new 57, 3) := dk_187 0 57 (dk_at dksX0_way_7 11 rfl rfl)
theorem dX0_way_176 : decode cX0_way 176 = .ok (.dup, 1) := dk_89 (dk_at dksX0_way_7 14 rfl rfl)
theorem dX0_way_177 : decode cX0_way 177 = .ok (.ldc2_w 15, 3) := dk_20 0 15 (dk_at dksX0_way_7 15 rfl rfl)
theorem dX0_way_180 : decode cX0_way 180 = .ok (.aload 5, 2) := dk_25 5 (dk_at dksX0_way_7 18 rfl rfl)
theorem dX0_way_182 : decode cX0_way 182 = .ok (.iload 7, 2) := dk_21 7 (dk_at dksX0_way_7 20 rfl rfl)
theorem dX0_way_184 : decode cX0_way 184 = .ok (.laload, 1) := dk_47 (dk_at dksX0_way_7 22 rfl rfl)
theorem dX0_way_185 : decode cX0_way 185 = .ok (.lmul, 1) := dk_105 (dk_at dksX0_way_7 23 rfl rfl)
theorem dX0_way_186 : decode cX0_way 186 = .ok (.lconst 0, 1) := dk_9 (dk_at dksX0_way_8 0 rfl rfl)
theorem dX0_way_187 : decode cX0_way 187 = .ok (.lconst 0, 1) := dk_9 (dk_at dksX0_way_8 1 rfl rfl)
theorem dX0_way_188 : decode cX0_way 188 = .ok (.lconst 0, 1) := dk_9 (dk_at dksX0_way_8 2 rfl rfl)
theorem dX0_way_189 : decode cX0_way 189 = .ok (.invokespecial 59, 3) := dk_183 0 59 (dk_at dksX0_way_8 3 rfl rfl)
theorem dX0_way_192 : decode cX0_way 192 = .ok (.aload 6, 2) := dk_25 6 (dk_at dksX0_way_8 6 rfl rfl)
theorem dX0_way_194 : decode cX0_way 194 = .ok (.aload_n 0, 1) := dk_42 (dk_at dksX0_way_8 8 rfl rfl)
theorem dX0_way_195 : decode cX0_way 195 = .ok (.getfield 99, 3) := dk_180 0 99 (dk_at dksX0_way_8 9 rfl rfl)
theorem dX0_way_198 : decode cX0_way 198 = .ok (.invokevirtual 197, 3) := dk_182 0 197 (dk_at dksX0_way_8 12 rfl rfl)
theorem dX0_way_201 : decode cX0_way 201 = .ok (.aastore, 1) := dk_83 (dk_at dksX0_way_8 15 rfl rfl)
theorem dX0_way_202 : decode cX0_way 202 = .ok (.aload_n 0, 1) := dk_42 (dk_at dksX0_way_8 16 rfl rfl)
theorem dX0_way_203 : decode cX0_way 203 = .ok (.getfield 110, 3) := dk_180 0 110 (dk_at dksX0_way_8 17 rfl rfl)
theorem dX0_way_206 : decode cX0_way 206 = .ok (.iconst 1, 1) := dk_4 (dk_at dksX0_way_8 20 rfl rfl)
theorem dX0_way_207 : decode cX0_way 207 = .ok (.aaload, 1) := dk_50 (dk_at dksX0_way_8 21 rfl rfl)
theorem dX0_way_208 : decode cX0_way 208 = .ok (.aload 6, 2) := dk_25 6 (dk_at dksX0_way_8 22 rfl rfl)
theorem dX0_way_210 : decode cX0_way 210 = .ok (.aload_n 0, 1) := dk_42 (dk_at dksX0_way_9 0 rfl rfl)
theorem dX0_way_211 : decode cX0_way 211 = .ok (.getfield 119, 3) := dk_180 0 119 (dk_at dksX0_way_9 1 rfl rfl)
theorem dX0_way_214 : decode cX0_way 214 = .ok (.iload 7, 2) := dk_21 7 (dk_at dksX0_way_9 4 rfl rfl)
theorem dX0_way_216 : decode cX0_way 216 = .ok (.aaload, 1) := dk_50 (dk_at dksX0_way_9 6 rfl rfl)
theorem dX0_way_217 : decode cX0_way 217 = .ok (.invokevirtual 190, 3) := dk_182 0 190 (dk_at dksX0_way_9 7 rfl rfl)
theorem dX0_way_220 : decode cX0_way 220 = .ok (.astore 6, 2) := dk_58 6 (dk_at dksX0_way_9 10 rfl rfl)
theorem dX0_way_222 : decode cX0_way 222 = .ok (.iinc 7 1, 3) := dk_132 7 1 (dk_at dksX0_way_9 12 rfl rfl)
theorem dX0_way_225 : decode cX0_way 225 = .ok (.goto (-73), 3) := dk_167 255 183 (dk_at dksX0_way_9 15 rfl rfl)
theorem dX0_way_228 : decode cX0_way 228 = .ok (.aload_n 0, 1) := dk_42 (dk_at dksX0_way_9 18 rfl rfl)
theorem dX0_way_229 : decode cX0_way 229 = .ok (.getfield 119, 3) := dk_180 0 119 (dk_at dksX0_way_9 19 rfl rfl)
theorem dX0_way_232 : decode cX0_way 232 = .ok (.iload 4, 2) := dk_21 4 (dk_at dksX0_way_9 22 rfl rfl)
theorem dX0_way_234 : decode cX0_way 234 = .ok (.iconst 1, 1) := dk_4 (dk_at dksX0_way_10 0 rfl rfl)
theorem dX0_way_235 : decode cX0_way 235 = .ok (.isub, 1) := dk_100 (dk_at dksX0_way_10 1 rfl rfl)
theorem dX0_way_236 : decode cX0_way 236 = .ok (.aload 6, 2) := dk_25 6 (dk_at dksX0_way_10 2 rfl rfl)
theorem dX0_way_238 : decode cX0_way 238 = .ok (.aastore, 1) := dk_83 (dk_at dksX0_way_10 4 rfl rfl)
theorem dX0_way_239 : decode cX0_way 239 = .ok (.iload 4, 2) := dk_21 4 (dk_at dksX0_way_10 5 rfl rfl)
theorem dX0_way_241 : decode cX0_way 241 = .ok (.ireturn, 1) := dk_172 (dk_at dksX0_way_10 7 rfl rfl)
abbrev cX0_refusal : ByteArray := prog_1_method_28_code
def yX0_refusal : MethodName := ⟨RX0, "refusal", "([JJ)I"⟩
def dkwX0_refusal_3 : List UInt8 := [167, 255, 198, 33, 10, 148, 154, 0, 7, 3, 167, 0, 5, 16, 254, 172]
abbrev dktX0_refusal_3 : List UInt8 := dkwX0_refusal_3 ++ []
def dkwX0_refusal_2 : List UInt8 := [148, 154, 0, 11, 22, 8, 184, 0, 201, 154, 0, 6, 16, 254, 172, 33, 22, 8, 109, 66, 132, 7, 1]
abbrev dktX0_refusal_2 : List UInt8 := dkwX0_refusal_2 ++ dktX0_refusal_3
def dkwX0_refusal_1 : List UInt8 := [47, 55, 8, 22, 8, 20, 0, 15, 148, 155, 0, 27, 22, 8, 31, 148, 157, 0, 20, 33, 22, 8, 113, 9]
abbrev dktX0_refusal_1 : List UInt8 := dkwX0_refusal_1 ++ dktX0_refusal_2
def dkwX0_refusal_0 : List UInt8 := [31, 66, 42, 58, 5, 25, 5, 190, 54, 6, 3, 54, 7, 21, 7, 21, 6, 162, 0, 57, 25, 5, 21, 7]
abbrev dktX0_refusal_0 : List UInt8 := dkwX0_refusal_0 ++ dktX0_refusal_1
theorem dksX0_refusal_0 : cX0_refusal.data.toList.drop 0 = dktX0_refusal_0 := by decide +kernel
theorem dksX0_refusal_1 : cX0_refusal.data.toList.drop 24 = dktX0_refusal_1 := dk_seg dksX0_refusal_0 24 rfl rfl
theorem dksX0_refusal_2 : cX0_refusal.data.toList.drop 48 = dktX0_refusal_2 := dk_seg dksX0_refusal_1 24 rfl rfl
theorem dksX0_refusal_3 : cX0_refusal.data.toList.drop 71 = dktX0_refusal_3 := dk_seg dksX0_refusal_2 23 rfl rfl
theorem dX0_refusal_0 : decode cX0_refusal 0 = .ok (.lload_n 1, 1) := dk_31 (dk_at dksX0_refusal_0 0 rfl rfl)
theorem dX0_refusal_1 : decode cX0_refusal 1 = .ok (.lstore_n 3, 1) := dk_66 (dk_at dksX0_refusal_0 1 rfl rfl)
theorem dX0_refusal_2 : decode cX0_refusal 2 = .ok (.aload_n 0, 1) := dk_42 (dk_at dksX0_refusal_0 2 rfl rfl)
theorem dX0_refusal_3 : decode cX0_refusal 3 = .ok (.astore 5, 2) := dk_58 5 (dk_at dksX0_refusal_0 3 rfl rfl)
theorem dX0_refusal_5 : decode cX0_refusal 5 = .ok (.aload 5, 2) := dk_25 5 (dk_at dksX0_refusal_0 5 rfl rfl)
theorem dX0_refusal_7 : decode cX0_refusal 7 = .ok (.arraylength, 1) := dk_190 (dk_at dksX0_refusal_0 7 rfl rfl)
theorem dX0_refusal_8 : decode cX0_refusal 8 = .ok (.istore 6, 2) := dk_54 6 (dk_at dksX0_refusal_0 8 rfl rfl)
theorem dX0_refusal_10 : decode cX0_refusal 10 = .ok (.iconst 0, 1) := dk_3 (dk_at dksX0_refusal_0 10 rfl rfl)
theorem dX0_refusal_11 : decode cX0_refusal 11 = .ok (.istore 7, 2) := dk_54 7 (dk_at dksX0_refusal_0 11 rfl rfl)
theorem dX0_refusal_13 : decode cX0_refusal 13 = .ok (.iload 7, 2) := dk_21 7 (dk_at dksX0_refusal_0 13 rfl rfl)
theorem dX0_refusal_15 : decode cX0_refusal 15 = .ok (.iload 6, 2) := dk_21 6 (dk_at dksX0_refusal_0 15 rfl rfl)
theorem dX0_refusal_17 : decode cX0_refusal 17 = .ok (.if_icmp .ge 57, 3) := dk_162 0 57 (dk_at dksX0_refusal_0 17 rfl rfl)
theorem dX0_refusal_20 : decode cX0_refusal 20 = .ok (.aload 5, 2) := dk_25 5 (dk_at dksX0_refusal_0 20 rfl rfl)
theorem dX0_refusal_22 : decode cX0_refusal 22 = .ok (.iload 7, 2) := dk_21 7 (dk_at dksX0_refusal_0 22 rfl rfl)
theorem dX0_refusal_24 : decode cX0_refusal 24 = .ok (.laload, 1) := dk_47 (dk_at dksX0_refusal_1 0 rfl rfl)
theorem dX0_refusal_25 : decode cX0_refusal 25 = .ok (.lstore 8, 2) := dk_55 8 (dk_at dksX0_refusal_1 1 rfl rfl)
theorem dX0_refusal_27 : decode cX0_refusal 27 = .ok (.lload 8, 2) := dk_22 8 (dk_at dksX0_refusal_1 3 rfl rfl)
theorem dX0_refusal_29 : decode cX0_refusal 29 = .ok (.ldc2_w 15, 3) := dk_20 0 15 (dk_at dksX0_refusal_1 5 rfl rfl)
theorem dX0_refusal_32 : decode cX0_refusal 32 = .ok (.lcmp, 1) := dk_148 (dk_at dksX0_refusal_1 8 rfl rfl)
theorem dX0_refusal_33 : decode cX0_refusal 33 = .ok (.ifCond .lt 27, 3) := dk_155 0 27 (dk_at dksX0_refusal_1 9 rfl rfl)
theorem dX0_refusal_36 : decode cX0_refusal 36 = .ok (.lload 8, 2) := dk_22 8 (dk_at dksX0_refusal_1 12 rfl rfl)
theorem dX0_refusal_38 : decode cX0_refusal 38 = .ok (.lload_n 1, 1) := dk_31 (dk_at dksX0_refusal_1 14 rfl rfl)
theorem dX0_refusal_39 : decode cX0_refusal 39 = .ok (.lcmp, 1) := dk_148 (dk_at dksX0_refusal_1 15 rfl rfl)
theorem dX0_refusal_40 : decode cX0_refusal 40 = .ok (.ifCond .gt 20, 3) := dk_157 0 20 (dk_at dksX0_refusal_1 16 rfl rfl)
theorem dX0_refusal_43 : decode cX0_refusal 43 = .ok (.lload_n 3, 1) := dk_33 (dk_at dksX0_refusal_1 19 rfl rfl)
theorem dX0_refusal_44 : decode cX0_refusal 44 = .ok (.lload 8, 2) := dk_22 8 (dk_at dksX0_refusal_1 20 rfl rfl)
theorem dX0_refusal_46 : decode cX0_refusal 46 = .ok (.lrem, 1) := dk_113 (dk_at dksX0_refusal_1 22 rfl rfl)
theorem dX0_refusal_47 : decode cX0_refusal 47 = .ok (.lconst 0, 1) := dk_9 (dk_at dksX0_refusal_1 23 rfl rfl)
theorem dX0_refusal_48 : decode cX0_refusal 48 = .ok (.lcmp, 1) := dk_148 (dk_at dksX0_refusal_2 0 rfl rfl)
theorem dX0_refusal_49 : decode cX0_refusal 49 = .ok (.ifCond .ne 11, 3) := dk_154 0 11 (dk_at dksX0_refusal_2 1 rfl rfl)
theorem dX0_refusal_52 : decode cX0_refusal 52 = .ok (.lload 8, 2) := dk_22 8 (dk_at dksX0_refusal_2 4 rfl rfl)
theorem dX0_refusal_54 : decode cX0_refusal 54 = .ok (.invokestatic 201, 3) := dk_184 0 201 (dk_at dksX0_refusal_2 6 rfl rfl)
theorem dX0_refusal_57 : decode cX0_refusal 57 = .ok (.ifCond .ne 6, 3) := dk_154 0 6 (dk_at dksX0_refusal_2 9 rfl rfl)
theorem dX0_refusal_60 : decode cX0_refusal 60 = .ok (.bipush (-2), 2) := dk_16 254 (dk_at dksX0_refusal_2 12 rfl rfl)
theorem dX0_refusal_62 : decode cX0_refusal 62 = .ok (.ireturn, 1) := dk_172 (dk_at dksX0_refusal_2 14 rfl rfl)
theorem dX0_refusal_63 : decode cX0_refusal 63 = .ok (.lload_n 3, 1) := dk_33 (dk_at dksX0_refusal_2 15 rfl rfl)
theorem dX0_refusal_64 : decode cX0_refusal 64 = .ok (.lload 8, 2) := dk_22 8 (dk_at dksX0_refusal_2 16 rfl rfl)
theorem dX0_refusal_66 : decode cX0_refusal 66 = .ok (.ldiv, 1) := dk_109 (dk_at dksX0_refusal_2 18 rfl rfl)
theorem dX0_refusal_67 : decode cX0_refusal 67 = .ok (.lstore_n 3, 1) := dk_66 (dk_at dksX0_refusal_2 19 rfl rfl)
theorem dX0_refusal_68 : decode cX0_refusal 68 = .ok (.iinc 7 1, 3) := dk_132 7 1 (dk_at dksX0_refusal_2 20 rfl rfl)
theorem dX0_refusal_71 : decode cX0_refusal 71 = .ok (.goto (-58), 3) := dk_167 255 198 (dk_at dksX0_refusal_3 0 rfl rfl)
theorem dX0_refusal_74 : decode cX0_refusal 74 = .ok (.lload_n 3, 1) := dk_33 (dk_at dksX0_refusal_3 3 rfl rfl)
theorem dX0_refusal_75 : decode cX0_refusal 75 = .ok (.lconst 1, 1) := dk_10 (dk_at dksX0_refusal_3 4 rfl rfl)
theorem dX0_refusal_76 : decode cX0_refusal 76 = .ok (.lcmp, 1) := dk_148 (dk_at dksX0_refusal_3 5 rfl rfl)
theorem dX0_refusal_77 : decode cX0_refusal 77 = .ok (.ifCond .ne 7, 3) := dk_154 0 7 (dk_at dksX0_refusal_3 6 rfl rfl)
theorem dX0_refusal_80 : decode cX0_refusal 80 = .ok (.iconst 0, 1) := dk_3 (dk_at dksX0_refusal_3 9 rfl rfl)
theorem dX0_refusal_81 : decode cX0_refusal 81 = .ok (.goto 5, 3) := dk_167 0 5 (dk_at dksX0_refusal_3 10 rfl rfl)
theorem dX0_refusal_84 : decode cX0_refusal 84 = .ok (.bipush (-2), 2) := dk_16 254 (dk_at dksX0_refusal_3 13 rfl rfl)
theorem dX0_refusal_86 : decode cX0_refusal 86 = .ok (.ireturn, 1) := dk_172 (dk_at dksX0_refusal_3 15 rfl rfl)
abbrev cX0_isPrime : ByteArray := prog_1_method_27_code
def yX0_isPrime : MethodName := ⟨RX0, "isPrime", "(J)Z"⟩
def dkwX0_isPrime_2 : List UInt8 := [167, 255, 226, 28, 172]
abbrev dktX0_isPrime_2 : List UInt8 := dkwX0_isPrime_2 ++ []
def dkwX0_isPrime_1 : List UInt8 := [148, 157, 0, 24, 30, 33, 113, 9, 148, 153, 0, 7, 4, 167, 0, 4, 3, 61, 33, 10, 97, 66]
abbrev dktX0_isPrime_1 : List UInt8 := dkwX0_isPrime_1 ++ dktX0_isPrime_2
def dkwX0_isPrime_0 : List UInt8 := [30, 10, 148, 158, 0, 7, 4, 167, 0, 4, 3, 61, 20, 0, 15, 66, 28, 153, 0, 32, 33, 33, 105, 30]
abbrev dktX0_isPrime_0 : List UInt8 := dkwX0_isPrime_0 ++ dktX0_isPrime_1
theorem dksX0_isPrime_0 : cX0_isPrime.data.toList.drop 0 = dktX0_isPrime_0 := by decide +kernel
theorem dksX0_isPrime_1 : cX0_isPrime.data.toList.drop 24 = dktX0_isPrime_1 := dk_seg dksX0_isPrime_0 24 rfl rfl
theorem dksX0_isPrime_2 : cX0_isPrime.data.toList.drop 46 = dktX0_isPrime_2 := dk_seg dksX0_isPrime_1 22 rfl rfl
theorem dX0_isPrime_0 : decode cX0_isPrime 0 = .ok (.lload_n 0, 1) := dk_30 (dk_at dksX0_isPrime_0 0 rfl rfl)
theorem dX0_isPrime_1 : decode cX0_isPrime 1 = .ok (.lconst 1, 1) := dk_10 (dk_at dksX0_isPrime_0 1 rfl rfl)
theorem dX0_isPrime_2 : decode cX0_isPrime 2 = .ok (.lcmp, 1) := dk_148 (dk_at dksX0_isPrime_0 2 rfl rfl)
theorem dX0_isPrime_3 : decode cX0_isPrime 3 = .ok (.ifCond .le 7, 3) := dk_158 0 7 (dk_at dksX0_isPrime_0 3 rfl rfl)
theorem dX0_isPrime_6 : decode cX0_isPrime 6 = .ok (.iconst 1, 1) := dk_4 (dk_at dksX0_isPrime_0 6 rfl rfl)
theorem dX0_isPrime_7 : decode cX0_isPrime 7 = .ok (.goto 4, 3) := dk_167 0 4 (dk_at dksX0_isPrime_0 7 rfl rfl)
theorem dX0_isPrime_10 : decode cX0_isPrime 10 = .ok (.iconst 0, 1) := dk_3 (dk_at dksX0_isPrime_0 10 rfl rfl)
theorem dX0_isPrime_11 : decode cX0_isPrime 11 = .ok (.istore_n 2, 1) := dk_61 (dk_at dksX0_isPrime_0 11 rfl rfl)
theorem dX0_isPrime_12 : decode cX0_isPrime 12 = .ok (.ldc2_w 15, 3) := dk_20 0 15 (dk_at dksX0_isPrime_0 12 rfl rfl)
theorem dX0_isPrime_15 : decode cX0_isPrime 15 = .ok (.lstore_n 3, 1) := dk_66 (dk_at dksX0_isPrime_0 15 rfl rfl)
theorem dX0_isPrime_16 : decode cX0_isPrime 16 = .ok (.iload_n 2, 1) := dk_28 (dk_at dksX0_isPrime_0 16 rfl rfl)
theorem dX0_isPrime_17 : decode cX0_isPrime 17 = .ok (.ifCond .eq 32, 3) := dk_153 0 32 (dk_at dksX0_isPrime_0 17 rfl rfl)
theorem dX0_isPrime_20 : decode cX0_isPrime 20 = .ok (.lload_n 3, 1) := dk_33 (dk_at dksX0_isPrime_0 20 rfl rfl)
theorem dX0_isPrime_21 : decode cX0_isPrime 21 = .ok (.lload_n 3, 1) := dk_33 (dk_at dksX0_isPrime_0 21 rfl rfl)
theorem dX0_isPrime_22 : decode cX0_isPrime 22 = .ok (.lmul, 1) := dk_105 (dk_at dksX0_isPrime_0 22 rfl rfl)
theorem dX0_isPrime_23 : decode cX0_isPrime 23 = .ok (.lload_n 0, 1) := dk_30 (dk_at dksX0_isPrime_0 23 rfl rfl)
theorem dX0_isPrime_24 : decode cX0_isPrime 24 = .ok (.lcmp, 1) := dk_148 (dk_at dksX0_isPrime_1 0 rfl rfl)
theorem dX0_isPrime_25 : decode cX0_isPrime 25 = .ok (.ifCond .gt 24, 3) := dk_157 0 24 (dk_at dksX0_isPrime_1 1 rfl rfl)
theorem dX0_isPrime_28 : decode cX0_isPrime 28 = .ok (.lload_n 0, 1) := dk_30 (dk_at dksX0_isPrime_1 4 rfl rfl)
theorem dX0_isPrime_29 : decode cX0_isPrime 29 = .ok (.lload_n 3, 1) := dk_33 (dk_at dksX0_isPrime_1 5 rfl rfl)
theorem dX0_isPrime_30 : decode cX0_isPrime 30 = .ok (.lrem, 1) := dk_113 (dk_at dksX0_isPrime_1 6 rfl rfl)
theorem dX0_isPrime_31 : decode cX0_isPrime 31 = .ok (.lconst 0, 1) := dk_9 (dk_at dksX0_isPrime_1 7 rfl rfl)
theorem dX0_isPrime_32 : decode cX0_isPrime 32 = .ok (.lcmp, 1) := dk_148 (dk_at dksX0_isPrime_1 8 rfl rfl)
theorem dX0_isPrime_33 : decode cX0_isPrime 33 = .ok (.ifCond .eq 7, 3) := dk_153 0 7 (dk_at dksX0_isPrime_1 9 rfl rfl)
theorem dX0_isPrime_36 : decode cX0_isPrime 36 = .ok (.iconst 1, 1) := dk_4 (dk_at dksX0_isPrime_1 12 rfl rfl)
theorem dX0_isPrime_37 : decode cX0_isPrime 37 = .ok (.goto 4, 3) := dk_167 0 4 (dk_at dksX0_isPrime_1 13 rfl rfl)
theorem dX0_isPrime_40 : decode cX0_isPrime 40 = .ok (.iconst 0, 1) := dk_3 (dk_at dksX0_isPrime_1 16 rfl rfl)
theorem dX0_isPrime_41 : decode cX0_isPrime 41 = .ok (.istore_n 2, 1) := dk_61 (dk_at dksX0_isPrime_1 17 rfl rfl)
theorem dX0_isPrime_42 : decode cX0_isPrime 42 = .ok (.lload_n 3, 1) := dk_33 (dk_at dksX0_isPrime_1 18 rfl rfl)
theorem dX0_isPrime_43 : decode cX0_isPrime 43 = .ok (.lconst 1, 1) := dk_10 (dk_at dksX0_isPrime_1 19 rfl rfl)
theorem dX0_isPrime_44 : decode cX0_isPrime 44 = .ok (.ladd, 1) := dk_97 (dk_at dksX0_isPrime_1 20 rfl rfl)
theorem dX0_isPrime_45 : decode cX0_isPrime 45 = .ok (.lstore_n 3, 1) := dk_66 (dk_at dksX0_isPrime_1 21 rfl rfl)
theorem dX0_isPrime_46 : decode cX0_isPrime 46 = .ok (.goto (-30), 3) := dk_167 255 226 (dk_at dksX0_isPrime_2 0 rfl rfl)
theorem dX0_isPrime_49 : decode cX0_isPrime 49 = .ok (.iload_n 2, 1) := dk_28 (dk_at dksX0_isPrime_2 3 rfl rfl)
theorem dX0_isPrime_50 : decode cX0_isPrime 50 = .ok (.ireturn, 1) := dk_172 (dk_at dksX0_isPrime_2 4 rfl rfl)
abbrev cX0_factor : ByteArray := prog_1_method_30_code
def yX0_factor : MethodName := ⟨RX0, "factor", "(II)I"⟩
def dkwX0_factor_2 : List UInt8 := [167, 0, 13, 42, 180, 0, 119, 28, 50, 182, 0, 154, 136, 172]
abbrev dktX0_factor_2 : List UInt8 := dkwX0_factor_2 ++ []
def dkwX0_factor_1 : List UInt8 := [154, 0, 6, 16, 254, 172, 42, 27, 42, 180, 0, 119, 28, 50, 182, 0, 137, 156, 0, 8, 16, 253]
abbrev dktX0_factor_1 : List UInt8 := dkwX0_factor_1 ++ dktX0_factor_2
def dkwX0_factor_0 : List UInt8 := [27, 184, 0, 128, 154, 0, 5, 2, 172, 28, 133, 9, 42, 180, 0, 119, 190, 4, 100, 133, 184, 0, 5]
abbrev dktX0_factor_0 : List UInt8 := dkwX0_factor_0 ++ dktX0_factor_1
theorem dksX0_factor_0 : cX0_factor.data.toList.drop 0 = dktX0_factor_0 := by decide +kernel
theorem dksX0_factor_1 : cX0_factor.data.toList.drop 23 = dktX0_factor_1 := dk_seg dksX0_factor_0 23 rfl rfl
theorem dksX0_factor_2 : cX0_factor.data.toList.drop 45 = dktX0_factor_2 := dk_seg dksX0_factor_1 22 rfl rfl
theorem dX0_factor_0 : decode cX0_factor 0 = .ok (.iload_n 1, 1) := dk_27 (dk_at dksX0_factor_0 0 rfl rfl)
theorem dX0_factor_1 : decode cX0_factor 1 = .ok (.invokestatic 128, 3) := dk_184 0 128 (dk_at dksX0_factor_0 1 rfl rfl)
theorem dX0_factor_4 : decode cX0_factor 4 = .ok (.ifCond .ne 5, 3) := dk_154 0 5 (dk_at dksX0_factor_0 4 rfl rfl)
theorem dX0_factor_7 : decode cX0_factor 7 = .ok (.iconst (-1), 1) := dk_2 (dk_at dksX0_factor_0 7 rfl rfl)
theorem dX0_factor_8 : decode cX0_factor 8 = .ok (.ireturn, 1) := dk_172 (dk_at dksX0_factor_0 8 rfl rfl)
theorem dX0_factor_9 : decode cX0_factor 9 = .ok (.iload_n 2, 1) := dk_28 (dk_at dksX0_factor_0 9 rfl rfl)
theorem dX0_factor_10 : decode cX0_factor 10 = .ok (.i2l, 1) := dk_133 (dk_at dksX0_factor_0 10 rfl rfl)
theorem dX0_factor_11 : decode cX0_factor 11 = .ok (.lconst 0, 1) := dk_9 (dk_at dksX0_factor_0 11 rfl rfl)
theorem dX0_factor_12 : decode cX0_factor 12 = .ok (.aload_n 0, 1) := dk_42 (dk_at dksX0_factor_0 12 rfl rfl)
theorem dX0_factor_13 : decode cX0_factor 13 = .ok (.getfield 119, 3) := dk_180 0 119 (dk_at dksX0_factor_0 13 rfl rfl)
theorem dX0_factor_16 : decode cX0_factor 16 = .ok (.arraylength, 1) := dk_190 (dk_at dksX0_factor_0 16 rfl rfl)
theorem dX0_factor_17 : decode cX0_factor 17 = .ok (.iconst 1, 1) := dk_4 (dk_at dksX0_factor_0 17 rfl rfl)
theorem dX0_factor_18 : decode cX0_factor 18 = .ok (.isub, 1) := dk_100 (dk_at dksX0_factor_0 18 rfl rfl)
theorem dX0_factor_19 : decode cX0_factor 19 = .ok (.i2l, 1) := dk_133 (dk_at dksX0_factor_0 19 rfl rfl)
theorem dX0_factor_20 : decode cX0_factor 20 = .ok (.invokestatic 5, 3) := dk_184 0 5 (dk_at dksX0_factor_0 20 rfl rfl)
theorem dX0_factor_23 : decode cX0_factor 23 = .ok (.ifCond .ne 6, 3) := dk_154 0 6 (dk_at dksX0_factor_1 0 rfl rfl)
theorem dX0_factor_26 : decode cX0_factor 26 = .ok (.bipush (-2), 2) := dk_16 254 (dk_at dksX0_factor_1 3 rfl rfl)
theorem dX0_factor_28 : decode cX0_factor 28 = .ok (.ireturn, 1) := dk_172 (dk_at dksX0_factor_1 5 rfl rfl)
theorem dX0_factor_29 : decode cX0_factor 29 = .ok (.aload_n 0, 1) := dk_42 (dk_at dksX0_factor_1 6 rfl rfl)
theorem dX0_factor_30 : decode cX0_factor 30 = .ok (.iload_n 1, 1) := dk_27 (dk_at dksX0_factor_1 7 rfl rfl)
theorem dX0_factor_31 : decode cX0_factor 31 = .ok (.aload_n 0, 1) := dk_42 (dk_at dksX0_factor_1 8 rfl rfl)
theorem dX0_factor_32 : decode cX0_factor 32 = .ok (.getfield 119, 3) := dk_180 0 119 (dk_at dksX0_factor_1 9 rfl rfl)
theorem dX0_factor_35 : decode cX0_factor 35 = .ok (.iload_n 2, 1) := dk_28 (dk_at dksX0_factor_1 12 rfl rfl)
theorem dX0_factor_36 : decode cX0_factor 36 = .ok (.aaload, 1) := dk_50 (dk_at dksX0_factor_1 13 rfl rfl)
theorem dX0_factor_37 : decode cX0_factor 37 = .ok (.invokevirtual 137, 3) := dk_182 0 137 (dk_at dksX0_factor_1 14 rfl rfl)
theorem dX0_factor_40 : decode cX0_factor 40 = .ok (.ifCond .ge 8, 3) := dk_156 0 8 (dk_at dksX0_factor_1 17 rfl rfl)
theorem dX0_factor_43 : decode cX0_factor 43 = .ok (.bipush (-3), 2) := dk_16 253 (dk_at dksX0_factor_1 20 rfl rfl)
theorem dX0_factor_45 : decode cX0_factor 45 = .ok (.goto 13, 3) := dk_167 0 13 (dk_at dksX0_factor_2 0 rfl rfl)
theorem dX0_factor_48 : decode cX0_factor 48 = .ok (.aload_n 0, 1) := dk_42 (dk_at dksX0_factor_2 3 rfl rfl)
theorem dX0_factor_49 : decode cX0_factor 49 = .ok (.getfield 119, 3) := dk_180 0 119 (dk_at dksX0_factor_2 4 rfl rfl)
theorem dX0_factor_52 : decode cX0_factor 52 = .ok (.iload_n 2, 1) := dk_28 (dk_at dksX0_factor_2 7 rfl rfl)
theorem dX0_factor_53 : decode cX0_factor 53 = .ok (.aaload, 1) := dk_50 (dk_at dksX0_factor_2 8 rfl rfl)
theorem dX0_factor_54 : decode cX0_factor 54 = .ok (.invokevirtual 154, 3) := dk_182 0 154 (dk_at dksX0_factor_2 9 rfl rfl)
theorem dX0_factor_57 : decode cX0_factor 57 = .ok (.l2i, 1) := dk_136 (dk_at dksX0_factor_2 12 rfl rfl)
theorem dX0_factor_58 : decode cX0_factor 58 = .ok (.ireturn, 1) := dk_172 (dk_at dksX0_factor_2 13 rfl rfl)
abbrev cX0_many : ByteArray := prog_1_method_32_code
def yX0_many : MethodName := ⟨RX0, "many", "(II)I"⟩
def dkwX0_many_3 : List UInt8 := [180, 0, 224, 172]
abbrev dktX0_many_3 : List UInt8 := dkwX0_many_3 ++ []
def dkwX0_many_2 : List UInt8 := [27, 7, 184, 0, 211, 104, 172, 187, 0, 215, 89, 27, 2, 183, 0, 217, 78, 45, 4, 182, 0, 220, 45]
abbrev dktX0_many_2 : List UInt8 := dkwX0_many_2 ++ dktX0_many_3
def dkwX0_many_1 : List UInt8 := [2, 172, 28, 5, 162, 0, 27, 28, 154, 0, 14, 16, 24, 27, 5, 184, 0, 211, 104, 167, 0, 11, 16, 8]
abbrev dktX0_many_1 : List UInt8 := dkwX0_many_1 ++ dktX0_many_2
def dkwX0_many_0 : List UInt8 := [27, 133, 10, 20, 0, 209, 184, 0, 5, 153, 0, 15, 28, 133, 9, 20, 0, 15, 184, 0, 5, 154, 0, 5]
abbrev dktX0_many_0 : List UInt8 := dkwX0_many_0 ++ dktX0_many_1
theorem dksX0_many_0 : cX0_many.data.toList.drop 0 = dktX0_many_0 := by decide +kernel
theorem dksX0_many_1 : cX0_many.data.toList.drop 24 = dktX0_many_1 := dk_seg dksX0_many_0 24 rfl rfl
theorem dksX0_many_2 : cX0_many.data.toList.drop 48 = dktX0_many_2 := dk_seg dksX0_many_1 24 rfl rfl
theorem dksX0_many_3 : cX0_many.data.toList.drop 71 = dktX0_many_3 := dk_seg dksX0_many_2 23 rfl rfl
theorem dX0_many_0 : decode cX0_many 0 = .ok (.iload_n 1, 1) := dk_27 (dk_at dksX0_many_0 0 rfl rfl)
theorem dX0_many_1 : decode cX0_many 1 = .ok (.i2l, 1) := dk_133 (dk_at dksX0_many_0 1 rfl rfl)
theorem dX0_many_2 : decode cX0_many 2 = .ok (.lconst 1, 1) := dk_10 (dk_at dksX0_many_0 2 rfl rfl)
theorem dX0_many_3 : decode cX0_many 3 = .ok (.ldc2_w 209, 3) := dk_20 0 209 (dk_at dksX0_many_0 3 rfl rfl)
theorem dX0_many_6 : decode cX0_many 6 = .ok (.invokestatic 5, 3) := dk_184 0 5 (dk_at dksX0_many_0 6 rfl rfl)
theorem dX0_many_9 : decode cX0_many 9 = .ok (.ifCond .eq 15, 3) := dk_153 0 15 (dk_at dksX0_many_0 9 rfl rfl)
theorem dX0_many_12 : decode cX0_many 12 = .ok (.iload_n 2, 1) := dk_28 (dk_at dksX0_many_0 12 rfl rfl)
theorem dX0_many_13 : decode cX0_many 13 = .ok (.i2l, 1) := dk_133 (dk_at dksX0_many_0 13 rfl rfl)
theorem dX0_many_14 : decode cX0_many 14 = .ok (.lconst 0, 1) := dk_9 (dk_at dksX0_many_0 14 rfl rfl)
theorem dX0_many_15 : decode cX0_many 15 = .ok (.ldc2_w 15, 3) := dk_20 0 15 (dk_at dksX0_many_0 15 rfl rfl)
theorem dX0_many_18 : decode cX0_many 18 = .ok (.invokestatic 5, 3) := dk_184 0 5 (dk_at dksX0_many_0 18 rfl rfl)
theorem dX0_many_21 : decode cX0_many 21 = .ok (.ifCond .ne 5, 3) := dk_154 0 5 (dk_at dksX0_many_0 21 rfl rfl)
theorem dX0_many_24 : decode cX0_many 24 = .ok (.iconst (-1), 1) := dk_2 (dk_at dksX0_many_1 0 rfl rfl)
theorem dX0_many_25 : decode cX0_many 25 = .ok (.ireturn, 1) := dk_172 (dk_at dksX0_many_1 1 rfl rfl)
theorem dX0_many_26 : decode cX0_many 26 = .ok (.iload_n 2, 1) := dk_28 (dk_at dksX0_many_1 2 rfl rfl)
theorem dX0_many_27 : decode cX0_many 27 = .ok (.iconst 2, 1) := dk_5 (dk_at dksX0_many_1 3 rfl rfl)
theorem dX0_many_28 : decode cX0_many 28 = .ok (.if_icmp .ge 27, 3) := dk_162 0 27 (dk_at dksX0_many_1 4 rfl rfl)
theorem dX0_many_31 : decode cX0_many 31 = .ok (.iload_n 2, 1) := dk_28 (dk_at dksX0_many_1 7 rfl rfl)
theorem dX0_many_32 : decode cX0_many 32 = .ok (.ifCond .ne 14, 3) := dk_154 0 14 (dk_at dksX0_many_1 8 rfl rfl)
theorem dX0_many_35 : decode cX0_many 35 = .ok (.bipush 24, 2) := dk_16 24 (dk_at dksX0_many_1 11 rfl rfl)
theorem dX0_many_37 : decode cX0_many 37 = .ok (.iload_n 1, 1) := dk_27 (dk_at dksX0_many_1 13 rfl rfl)
theorem dX0_many_38 : decode cX0_many 38 = .ok (.iconst 2, 1) := dk_5 (dk_at dksX0_many_1 14 rfl rfl)
theorem dX0_many_39 : decode cX0_many 39 = .ok (.invokestatic 211, 3) := dk_184 0 211 (dk_at dksX0_many_1 15 rfl rfl)
theorem dX0_many_42 : decode cX0_many 42 = .ok (.imul, 1) := dk_104 (dk_at dksX0_many_1 18 rfl rfl)
theorem dX0_many_43 : decode cX0_many 43 = .ok (.goto 11, 3) := dk_167 0 11 (dk_at dksX0_many_1 19 rfl rfl)
theorem dX0_many_46 : decode cX0_many 46 = .ok (.bipush 8, 2) := dk_16 8 (dk_at dksX0_many_1 22 rfl rfl)
theorem dX0_many_48 : decode cX0_many 48 = .ok (.iload_n 1, 1) := dk_27 (dk_at dksX0_many_2 0 rfl rfl)
theorem dX0_many_49 : decode cX0_many 49 = .ok (.iconst 4, 1) := dk_7 (dk_at dksX0_many_2 1 rfl rfl)
theorem dX0_many_50 : decode cX0_many 50 = .ok (.invokestatic 211, 3) := dk_184 0 211 (dk_at dksX0_many_2 2 rfl rfl)
theorem dX0_many_53 : decode cX0_many 53 = .ok (.imul, 1) := dk_104 (dk_at dksX0_many_2 5 rfl rfl)
theorem dX0_many_54 : decode cX0_many 54 = .ok (.ireturn, 1) := dk_172 (dk_at dksX0_many_2 6 rfl rfl)
theorem dX0_many_55 : decode cX0_many 55 = .ok (.new 215, 3) := dk_187 0 215 (dk_at dksX0_many_2 7 rfl rfl)
theorem dX0_many_58 : decode cX0_many 58 = .ok (.dup, 1) := dk_89 (dk_at dksX0_many_2 10 rfl rfl)
theorem dX0_many_59 : decode cX0_many 59 = .ok (.iload_n 1, 1) := dk_27 (dk_at dksX0_many_2 11 rfl rfl)
theorem dX0_many_60 : decode cX0_many 60 = .ok (.iconst (-1), 1) := dk_2 (dk_at dksX0_many_2 12 rfl rfl)
theorem dX0_many_61 : decode cX0_many 61 = .ok (.invokespecial 217, 3) := dk_183 0 217 (dk_at dksX0_many_2 13 rfl rfl)
theorem dX0_many_64 : decode cX0_many 64 = .ok (.astore_n 3, 1) := dk_78 (dk_at dksX0_many_2 16 rfl rfl)
theorem dX0_many_65 : decode cX0_many 65 = .ok (.aload_n 3, 1) := dk_45 (dk_at dksX0_many_2 17 rfl rfl)
theorem dX0_many_66 : decode cX0_many 66 = .ok (.iconst 1, 1) := dk_4 (dk_at dksX0_many_2 18 rfl rfl)
theorem dX0_many_67 : decode cX0_many 67 = .ok (.invokevirtual 220, 3) := dk_182 0 220 (dk_at dksX0_many_2 19 rfl rfl)
theorem dX0_many_70 : decode cX0_many 70 = .ok (.aload_n 3, 1) := dk_45 (dk_at dksX0_many_2 22 rfl rfl)
theorem dX0_many_71 : decode cX0_many 71 = .ok (.getfield 224, 3) := dk_180 0 224 (dk_at dksX0_many_3 0 rfl rfl)
theorem dX0_many_74 : decode cX0_many 74 = .ok (.ireturn, 1) := dk_172 (dk_at dksX0_many_3 3 rfl rfl)
abbrev cX0_divisors : ByteArray := prog_1_method_31_code
def yX0_divisors : MethodName := ⟨RX0, "divisors", "(II)I"⟩
def dkwX0_divisors_1 : List UInt8 := [167, 0, 4, 3, 96, 61, 132, 3, 1, 167, 255, 228, 28, 172]
abbrev dktX0_divisors_1 : List UInt8 := dkwX0_divisors_1 ++ []
def dkwX0_divisors_0 : List UInt8 := [3, 61, 4, 62, 29, 26, 163, 0, 29, 28, 26, 29, 112, 154, 0, 13, 29, 27, 112, 153, 0, 7, 29]
abbrev dktX0_divisors_0 : List UInt8 := dkwX0_divisors_0 ++ dktX0_divisors_1
theorem dksX0_divisors_0 : cX0_divisors.data.toList.drop 0 = dktX0_divisors_0 := by decide +kernel
theorem dksX0_divisors_1 : cX0_divisors.data.toList.drop 23 = dktX0_divisors_1 := dk_seg dksX0_divisors_0 23 rfl rfl
theorem dX0_divisors_0 : decode cX0_divisors 0 = .ok (.iconst 0, 1) := dk_3 (dk_at dksX0_divisors_0 0 rfl rfl)
theorem dX0_divisors_1 : decode cX0_divisors 1 = .ok (.istore_n 2, 1) := dk_61 (dk_at dksX0_divisors_0 1 rfl rfl)
theorem dX0_divisors_2 : decode cX0_divisors 2 = .ok (.iconst 1, 1) := dk_4 (dk_at dksX0_divisors_0 2 rfl rfl)
theorem dX0_divisors_3 : decode cX0_divisors 3 = .ok (.istore_n 3, 1) := dk_62 (dk_at dksX0_divisors_0 3 rfl rfl)
theorem dX0_divisors_4 : decode cX0_divisors 4 = .ok (.iload_n 3, 1) := dk_29 (dk_at dksX0_divisors_0 4 rfl rfl)
theorem dX0_divisors_5 : decode cX0_divisors 5 = .ok (.iload_n 0, 1) := dk_26 (dk_at dksX0_divisors_0 5 rfl rfl)
theorem dX0_divisors_6 : decode cX0_divisors 6 = .ok (.if_icmp .gt 29, 3) := dk_163 0 29 (dk_at dksX0_divisors_0 6 rfl rfl)
theorem dX0_divisors_9 : decode cX0_divisors 9 = .ok (.iload_n 2, 1) := dk_28 (dk_at dksX0_divisors_0 9 rfl rfl)
theorem dX0_divisors_10 : decode cX0_divisors 10 = .ok (.iload_n 0, 1) := dk_26 (dk_at dksX0_divisors_0 10 rfl rfl)
theorem dX0_divisors_11 : decode cX0_divisors 11 = .ok (.iload_n 3, 1) := dk_29 (dk_at dksX0_divisors_0 11 rfl rfl)
theorem dX0_divisors_12 : decode cX0_divisors 12 = .ok (.irem, 1) := dk_112 (dk_at dksX0_divisors_0 12 rfl rfl)
theorem dX0_divisors_13 : decode cX0_divisors 13 = .ok (.ifCond .ne 13, 3) := dk_154 0 13 (dk_at dksX0_divisors_0 13 rfl rfl)
theorem dX0_divisors_16 : decode cX0_divisors 16 = .ok (.iload_n 3, 1) := dk_29 (dk_at dksX0_divisors_0 16 rfl rfl)
theorem dX0_divisors_17 : decode cX0_divisors 17 = .ok (.iload_n 1, 1) := dk_27 (dk_at dksX0_divisors_0 17 rfl rfl)
theorem dX0_divisors_18 : decode cX0_divisors 18 = .ok (.irem, 1) := dk_112 (dk_at dksX0_divisors_0 18 rfl rfl)
theorem dX0_divisors_19 : decode cX0_divisors 19 = .ok (.ifCond .eq 7, 3) := dk_153 0 7 (dk_at dksX0_divisors_0 19 rfl rfl)
theorem dX0_divisors_22 : decode cX0_divisors 22 = .ok (.iload_n 3, 1) := dk_29 (dk_at dksX0_divisors_0 22 rfl rfl)
theorem dX0_divisors_23 : decode cX0_divisors 23 = .ok (.goto 4, 3) := dk_167 0 4 (dk_at dksX0_divisors_1 0 rfl rfl)
theorem dX0_divisors_26 : decode cX0_divisors 26 = .ok (.iconst 0, 1) := dk_3 (dk_at dksX0_divisors_1 3 rfl rfl)
theorem dX0_divisors_27 : decode cX0_divisors 27 = .ok (.iadd, 1) := dk_96 (dk_at dksX0_divisors_1 4 rfl rfl)
theorem dX0_divisors_28 : decode cX0_divisors 28 = .ok (.istore_n 2, 1) := dk_61 (dk_at dksX0_divisors_1 5 rfl rfl)
theorem dX0_divisors_29 : decode cX0_divisors 29 = .ok (.iinc 3 1, 3) := dk_132 3 1 (dk_at dksX0_divisors_1 6 rfl rfl)
theorem dX0_divisors_32 : decode cX0_divisors 32 = .ok (.goto (-28), 3) := dk_167 255 228 (dk_at dksX0_divisors_1 9 rfl rfl)
theorem dX0_divisors_35 : decode cX0_divisors 35 = .ok (.iload_n 2, 1) := dk_28 (dk_at dksX0_divisors_1 12 rfl rfl)
theorem dX0_divisors_36 : decode cX0_divisors 36 = .ok (.ireturn, 1) := dk_172 (dk_at dksX0_divisors_1 13 rfl rfl)
abbrev cX0_listed : ByteArray := prog_1_method_33_code
def yX0_listed : MethodName := ⟨RX0, "listed", "(III)I"⟩
def dkwX0_listed_2 : List UInt8 := [199, 0, 6, 16, 252, 172, 42, 180, 0, 117, 27, 25, 4, 180, 0, 228, 83, 4, 172]
abbrev dktX0_listed_2 : List UInt8 := dkwX0_listed_2 ++ []
def dkwX0_listed_1 : List UInt8 := [172, 187, 0, 215, 89, 28, 29, 183, 0, 217, 58, 4, 25, 4, 3, 182, 0, 220, 25, 4, 180, 0, 228]
abbrev dktX0_listed_1 : List UInt8 := dkwX0_listed_1 ++ dktX0_listed_2
def dkwX0_listed_0 : List UInt8 := [27, 184, 0, 128, 153, 0, 19, 28, 133, 10, 20, 0, 209, 184, 0, 5, 153, 0, 7, 29, 156, 0, 5, 2]
abbrev dktX0_listed_0 : List UInt8 := dkwX0_listed_0 ++ dktX0_listed_1
theorem dksX0_listed_0 : cX0_listed.data.toList.drop 0 = dktX0_listed_0 := by decide +kernel
theorem dksX0_listed_1 : cX0_listed.data.toList.drop 24 = dktX0_listed_1 := dk_seg dksX0_listed_0 24 rfl rfl
theorem dksX0_listed_2 : cX0_listed.data.toList.drop 47 = dktX0_listed_2 := dk_seg dksX0_listed_1 23 rfl rfl
theorem dX0_listed_0 : decode cX0_listed 0 = .ok (.iload_n 1, 1) := dk_27 (dk_at dksX0_listed_0 0 rfl rfl)
theorem dX0_listed_1 : decode cX0_listed 1 = .ok (.invokestatic 128, 3) := dk_184 0 128 (dk_at dksX0_listed_0 1 rfl rfl)
theorem dX0_listed_4 : decode cX0_listed 4 = .ok (.ifCond .eq 19, 3) := dk_153 0 19 (dk_at dksX0_listed_0 4 rfl rfl)
theorem dX0_listed_7 : decode cX0_listed 7 = .ok (.iload_n 2, 1) := dk_28 (dk_at dksX0_listed_0 7 rfl rfl)
theorem dX0_listed_8 : decode cX0_listed 8 = .ok (.i2l, 1) := dk_133 (dk_at dksX0_listed_0 8 rfl rfl)
theorem dX0_listed_9 : decode cX0_listed 9 = .ok (.lconst 1, 1) := dk_10 (dk_at dksX0_listed_0 9 rfl rfl)
theorem dX0_listed_10 : decode cX0_listed 10 = .ok (.ldc2_w 209, 3) := dk_20 0 209 (dk_at dksX0_listed_0 10 rfl rfl)
theorem dX0_listed_13 : decode cX0_listed 13 = .ok (.invokestatic 5, 3) := dk_184 0 5 (dk_at dksX0_listed_0 13 rfl rfl)
theorem dX0_listed_16 : decode cX0_listed 16 = .ok (.ifCond .eq 7, 3) := dk_153 0 7 (dk_at dksX0_listed_0 16 rfl rfl)
theorem dX0_listed_19 : decode cX0_listed 19 = .ok (.iload_n 3, 1) := dk_29 (dk_at dksX0_listed_0 19 rfl rfl)
theorem dX0_listed_20 : decode cX0_listed 20 = .ok (.ifCond .ge 5, 3) := dk_156 0 5 (dk_at dksX0_listed_0 20 rfl rfl)
theorem dX0_listed_23 : decode cX0_listed 23 = .ok (.iconst (-1), 1) := dk_2 (dk_at dksX0_listed_0 23 rfl rfl)
theorem dX0_listed_24 : decode cX0_listed 24 = .ok (.ireturn, 1) := dk_172 (dk_at dksX0_listed_1 0 rfl rfl)
theorem dX0_listed_25 : decode cX0_listed 25 = .ok (.new 215, 3) := dk_187 0 215 (dk_at dksX0_listed_1 1 rfl rfl)
theorem dX0_listed_28 : decode cX0_listed 28 = .ok (.dup, 1) := dk_89 (dk_at dksX0_listed_1 4 rfl rfl)
theorem dX0_listed_29 : decode cX0_listed 29 = .ok (.iload_n 2, 1) := dk_28 (dk_at dksX0_listed_1 5 rfl rfl)
theorem dX0_listed_30 : decode cX0_listed 30 = .ok (.iload_n 3, 1) := dk_29 (dk_at dksX0_listed_1 6 rfl rfl)
theorem dX0_listed_31 : decode cX0_listed 31 = .ok (.invokespecial 217, 3) := dk_183 0 217 (dk_at dksX0_listed_1 7 rfl rfl)
theorem dX0_listed_34 : decode cX0_listed 34 = .ok (.astore 4, 2) := dk_58 4 (dk_at dksX0_listed_1 10 rfl rfl)
theorem dX0_listed_36 : decode cX0_listed 36 = .ok (.aload 4, 2) := dk_25 4 (dk_at dksX0_listed_1 12 rfl rfl)
theorem dX0_listed_38 : decode cX0_listed 38 = .ok (.iconst 0, 1) := dk_3 (dk_at dksX0_listed_1 14 rfl rfl)
theorem dX0_listed_39 : decode cX0_listed 39 = .ok (.invokevirtual 220, 3) := dk_182 0 220 (dk_at dksX0_listed_1 15 rfl rfl)
theorem dX0_listed_42 : decode cX0_listed 42 = .ok (.aload 4, 2) := dk_25 4 (dk_at dksX0_listed_1 18 rfl rfl)
theorem dX0_listed_44 : decode cX0_listed 44 = .ok (.getfield 228, 3) := dk_180 0 228 (dk_at dksX0_listed_1 20 rfl rfl)
theorem dX0_listed_47 : decode cX0_listed 47 = .ok (.ifnonnull 6, 3) := dk_199 0 6 (dk_at dksX0_listed_2 0 rfl rfl)
theorem dX0_listed_50 : decode cX0_listed 50 = .ok (.bipush (-4), 2) := dk_16 252 (dk_at dksX0_listed_2 3 rfl rfl)
theorem dX0_listed_52 : decode cX0_listed 52 = .ok (.ireturn, 1) := dk_172 (dk_at dksX0_listed_2 5 rfl rfl)
theorem dX0_listed_53 : decode cX0_listed 53 = .ok (.aload_n 0, 1) := dk_42 (dk_at dksX0_listed_2 6 rfl rfl)
theorem dX0_listed_54 : decode cX0_listed 54 = .ok (.getfield 117, 3) := dk_180 0 117 (dk_at dksX0_listed_2 7 rfl rfl)
theorem dX0_listed_57 : decode cX0_listed 57 = .ok (.iload_n 1, 1) := dk_27 (dk_at dksX0_listed_2 10 rfl rfl)
theorem dX0_listed_58 : decode cX0_listed 58 = .ok (.aload 4, 2) := dk_25 4 (dk_at dksX0_listed_2 11 rfl rfl)
theorem dX0_listed_60 : decode cX0_listed 60 = .ok (.getfield 228, 3) := dk_180 0 228 (dk_at dksX0_listed_2 13 rfl rfl)
theorem dX0_listed_63 : decode cX0_listed 63 = .ok (.aastore, 1) := dk_83 (dk_at dksX0_listed_2 16 rfl rfl)
theorem dX0_listed_64 : decode cX0_listed 64 = .ok (.iconst 1, 1) := dk_4 (dk_at dksX0_listed_2 17 rfl rfl)
theorem dX0_listed_65 : decode cX0_listed 65 = .ok (.ireturn, 1) := dk_172 (dk_at dksX0_listed_2 18 rfl rfl)
abbrev cX0_turn : ByteArray := prog_1_method_35_code
def yX0_turn : MethodName := ⟨RX0, "turn", "(III)I"⟩
def dkwX0_turn_2 : List UInt8 := [18, 232, 167, 0, 19, 42, 180, 0, 117, 27, 50, 28, 29, 184, 0, 233, 20, 0, 67, 109, 136, 172]
abbrev dktX0_turn_2 : List UInt8 := dkwX0_turn_2 ++ []
def dkwX0_turn_1 : List UInt8 := [20, 0, 15, 184, 0, 5, 154, 0, 6, 18, 231, 172, 42, 180, 0, 117, 27, 50, 182, 0, 187, 153, 0, 8]
abbrev dktX0_turn_1 : List UInt8 := dkwX0_turn_1 ++ dktX0_turn_2
def dkwX0_turn_0 : List UInt8 := [27, 184, 0, 128, 153, 0, 27, 28, 133, 9, 20, 0, 15, 184, 0, 5, 153, 0, 15, 29, 133, 9]
abbrev dktX0_turn_0 : List UInt8 := dkwX0_turn_0 ++ dktX0_turn_1
theorem dksX0_turn_0 : cX0_turn.data.toList.drop 0 = dktX0_turn_0 := by decide +kernel
theorem dksX0_turn_1 : cX0_turn.data.toList.drop 22 = dktX0_turn_1 := dk_seg dksX0_turn_0 22 rfl rfl
theorem dksX0_turn_2 : cX0_turn.data.toList.drop 46 = dktX0_turn_2 := dk_seg dksX0_turn_1 24 rfl rfl
theorem dX0_turn_0 : decode cX0_turn 0 = .ok (.iload_n 1, 1) := dk_27 (dk_at dksX0_turn_0 0 rfl rfl)
theorem dX0_turn_1 : decode cX0_turn 1 = .ok (.invokestatic 128, 3) := dk_184 0 128 (dk_at dksX0_turn_0 1 rfl rfl)
theorem dX0_turn_4 : decode cX0_turn 4 = .ok (.ifCond .eq 27, 3) := dk_153 0 27 (dk_at dksX0_turn_0 4 rfl rfl)
theorem dX0_turn_7 : decode cX0_turn 7 = .ok (.iload_n 2, 1) := dk_28 (dk_at dksX0_turn_0 7 rfl rfl)
theorem dX0_turn_8 : decode cX0_turn 8 = .ok (.i2l, 1) := dk_133 (dk_at dksX0_turn_0 8 rfl rfl)
theorem dX0_turn_9 : decode cX0_turn 9 = .ok (.lconst 0, 1) := dk_9 (dk_at dksX0_turn_0 9 rfl rfl)
theorem dX0_turn_10 : decode cX0_turn 10 = .ok (.ldc2_w 15, 3) := dk_20 0 15 (dk_at dksX0_turn_0 10 rfl rfl)
theorem dX0_turn_13 : decode cX0_turn 13 = .ok (.invokestatic 5, 3) := dk_184 0 5 (dk_at dksX0_turn_0 13 rfl rfl)
theorem dX0_turn_16 : decode cX0_turn 16 = .ok (.ifCond .eq 15, 3) := dk_153 0 15 (dk_at dksX0_turn_0 16 rfl rfl)
theorem dX0_turn_19 : decode cX0_turn 19 = .ok (.iload_n 3, 1) := dk_29 (dk_at dksX0_turn_0 19 rfl rfl)
theorem dX0_turn_20 : decode cX0_turn 20 = .ok (.i2l, 1) := dk_133 (dk_at dksX0_turn_0 20 rfl rfl)
theorem dX0_turn_21 : decode cX0_turn 21 = .ok (.lconst 0, 1) := dk_9 (dk_at dksX0_turn_0 21 rfl rfl)
theorem dX0_turn_22 : decode cX0_turn 22 = .ok (.ldc2_w 15, 3) := dk_20 0 15 (dk_at dksX0_turn_1 0 rfl rfl)
theorem dX0_turn_25 : decode cX0_turn 25 = .ok (.invokestatic 5, 3) := dk_184 0 5 (dk_at dksX0_turn_1 3 rfl rfl)
theorem dX0_turn_28 : decode cX0_turn 28 = .ok (.ifCond .ne 6, 3) := dk_154 0 6 (dk_at dksX0_turn_1 6 rfl rfl)
theorem dX0_turn_31 : decode cX0_turn 31 = .ok (.ldc 231, 2) := dk_18 231 (dk_at dksX0_turn_1 9 rfl rfl)
theorem dX0_turn_33 : decode cX0_turn 33 = .ok (.ireturn, 1) := dk_172 (dk_at dksX0_turn_1 11 rfl rfl)
theorem dX0_turn_34 : decode cX0_turn 34 = .ok (.aload_n 0, 1) := dk_42 (dk_at dksX0_turn_1 12 rfl rfl)
theorem dX0_turn_35 : decode cX0_turn 35 = .ok (.getfield 117, 3) := dk_180 0 117 (dk_at dksX0_turn_1 13 rfl rfl)
theorem dX0_turn_38 : decode cX0_turn 38 = .ok (.iload_n 1, 1) := dk_27 (dk_at dksX0_turn_1 16 rfl rfl)
theorem dX0_turn_39 : decode cX0_turn 39 = .ok (.aaload, 1) := dk_50 (dk_at dksX0_turn_1 17 rfl rfl)
theorem dX0_turn_40 : decode cX0_turn 40 = .ok (.invokevirtual 187, 3) := dk_182 0 187 (dk_at dksX0_turn_1 18 rfl rfl)
theorem dX0_turn_43 : decode cX0_turn 43 = .ok (.ifCond .eq 8, 3) := dk_153 0 8 (dk_at dksX0_turn_1 21 rfl rfl)
theorem dX0_turn_46 : decode cX0_turn 46 = .ok (.ldc 232, 2) := dk_18 232 (dk_at dksX0_turn_2 0 rfl rfl)
theorem dX0_turn_48 : decode cX0_turn 48 = .ok (.goto 19, 3) := dk_167 0 19 (dk_at dksX0_turn_2 2 rfl rfl)
theorem dX0_turn_51 : decode cX0_turn 51 = .ok (.aload_n 0, 1) := dk_42 (dk_at dksX0_turn_2 5 rfl rfl)
theorem dX0_turn_52 : decode cX0_turn 52 = .ok (.getfield 117, 3) := dk_180 0 117 (dk_at dksX0_turn_2 6 rfl rfl)
theorem dX0_turn_55 : decode cX0_turn 55 = .ok (.iload_n 1, 1) := dk_27 (dk_at dksX0_turn_2 9 rfl rfl)
theorem dX0_turn_56 : decode cX0_turn 56 = .ok (.aaload, 1) := dk_50 (dk_at dksX0_turn_2 10 rfl rfl)
theorem dX0_turn_57 : decode cX0_turn 57 = .ok (.iload_n 2, 1) := dk_28 (dk_at dksX0_turn_2 11 rfl rfl)
theorem dX0_turn_58 : decode cX0_turn 58 = .ok (.iload_n 3, 1) := dk_29 (dk_at dksX0_turn_2 12 rfl rfl)
theorem dX0_turn_59 : decode cX0_turn 59 = .ok (.invokestatic 233, 3) := dk_184 0 233 (dk_at dksX0_turn_2 13 rfl rfl)
theorem dX0_turn_62 : decode cX0_turn 62 = .ok (.ldc2_w 67, 3) := dk_20 0 67 (dk_at dksX0_turn_2 16 rfl rfl)
theorem dX0_turn_65 : decode cX0_turn 65 = .ok (.ldiv, 1) := dk_109 (dk_at dksX0_turn_2 19 rfl rfl)
theorem dX0_turn_66 : decode cX0_turn 66 = .ok (.l2i, 1) := dk_136 (dk_at dksX0_turn_2 20 rfl rfl)
theorem dX0_turn_67 : decode cX0_turn 67 = .ok (.ireturn, 1) := dk_172 (dk_at dksX0_turn_2 21 rfl rfl)
abbrev cX0_entry : ByteArray := prog_1_method_34_code
def yX0_entry : MethodName := ⟨RX0, "entry", "(LFourParts$Four;II)J"⟩
def dkwX0_entry_4 : List UInt8 := [182, 0, 144, 105, 22, 4, 42, 180, 0, 73, 105, 42, 29, 4, 96, 182, 0, 144, 105, 97, 105, 173]
abbrev dktX0_entry_4 : List UInt8 := dkwX0_entry_4 ++ []
def dkwX0_entry_3 : List UInt8 := [20, 0, 13, 167, 0, 4, 10, 55, 4, 20, 0, 15, 42, 27, 4, 96, 182, 0, 144, 42, 28, 4, 96]
abbrev dktX0_entry_3 : List UInt8 := dkwX0_entry_3 ++ dktX0_entry_4
def dkwX0_entry_2 : List UInt8 := [180, 0, 73, 105, 101, 101, 173, 6, 27, 100, 28, 100, 62, 28, 27, 100, 6, 96, 6, 112, 4, 160, 0, 9]
abbrev dktX0_entry_2 : List UInt8 := dkwX0_entry_2 ++ dktX0_entry_3
def dkwX0_entry_1 : List UInt8 := [180, 0, 73, 42, 180, 0, 73, 105, 20, 0, 15, 33, 105, 97, 42, 182, 0, 63, 42, 180, 0, 73, 42]
abbrev dktX0_entry_1 : List UInt8 := dkwX0_entry_1 ++ dktX0_entry_2
def dkwX0_entry_0 : List UInt8 := [27, 28, 160, 0, 50, 42, 27, 4, 96, 182, 0, 144, 42, 27, 4, 96, 182, 0, 144, 105, 66, 42]
abbrev dktX0_entry_0 : List UInt8 := dkwX0_entry_0 ++ dktX0_entry_1
theorem dksX0_entry_0 : cX0_entry.data.toList.drop 0 = dktX0_entry_0 := by decide +kernel
theorem dksX0_entry_1 : cX0_entry.data.toList.drop 22 = dktX0_entry_1 := dk_seg dksX0_entry_0 22 rfl rfl
theorem dksX0_entry_2 : cX0_entry.data.toList.drop 45 = dktX0_entry_2 := dk_seg dksX0_entry_1 23 rfl rfl
theorem dksX0_entry_3 : cX0_entry.data.toList.drop 69 = dktX0_entry_3 := dk_seg dksX0_entry_2 24 rfl rfl
theorem dksX0_entry_4 : cX0_entry.data.toList.drop 92 = dktX0_entry_4 := dk_seg dksX0_entry_3 23 rfl rfl
theorem dX0_entry_0 : decode cX0_entry 0 = .ok (.iload_n 1, 1) := dk_27 (dk_at dksX0_entry_0 0 rfl rfl)
theorem dX0_entry_1 : decode cX0_entry 1 = .ok (.iload_n 2, 1) := dk_28 (dk_at dksX0_entry_0 1 rfl rfl)
theorem dX0_entry_2 : decode cX0_entry 2 = .ok (.if_icmp .ne 50, 3) := dk_160 0 50 (dk_at dksX0_entry_0 2 rfl rfl)
theorem dX0_entry_5 : decode cX0_entry 5 = .ok (.aload_n 0, 1) := dk_42 (dk_at dksX0_entry_0 5 rfl rfl)
theorem dX0_entry_6 : decode cX0_entry 6 = .ok (.iload_n 1, 1) := dk_27 (dk_at dksX0_entry_0 6 rfl rfl)
theorem dX0_entry_7 : decode cX0_entry 7 = .ok (.iconst 1, 1) := dk_4 (dk_at dksX0_entry_0 7 rfl rfl)
theorem dX0_entry_8 : decode cX0_entry 8 = .ok (.iadd, 1) := dk_96 (dk_at dksX0_entry_0 8 rfl rfl)
theorem dX0_entry_9 : decode cX0_entry 9 = .ok (.invokevirtual 144, 3) := dk_182 0 144 (dk_at dksX0_entry_0 9 rfl rfl)
theorem dX0_entry_12 : decode cX0_entry 12 = .ok (.aload_n 0, 1) := dk_42 (dk_at dksX0_entry_0 12 rfl rfl)
theorem dX0_entry_13 : decode cX0_entry 13 = .ok (.iload_n 1, 1) := dk_27 (dk_at dksX0_entry_0 13 rfl rfl)
theorem dX0_entry_14 : decode cX0_entry 14 = .ok (.iconst 1, 1) := dk_4 (dk_at dksX0_entry_0 14 rfl rfl)
theorem dX0_entry_15 : decode cX0_entry 15 = .ok (.iadd, 1) := dk_96 (dk_at dksX0_entry_0 15 rfl rfl)
theorem dX0_entry_16 : decode cX0_entry 16 = .ok (.invokevirtual 144, 3) := dk_182 0 144 (dk_at dksX0_entry_0 16 rfl rfl)
theorem dX0_entry_19 : decode cX0_entry 19 = .ok (.lmul, 1) := dk_105 (dk_at dksX0_entry_0 19 rfl rfl)
theorem dX0_entry_20 : decode cX0_entry 20 = .ok (.lstore_n 3, 1) := dk_66 (dk_at dksX0_entry_0 20 rfl rfl)
theorem dX0_entry_21 : decode cX0_entry 21 = .ok (.aload_n 0, 1) := dk_42 (dk_at dksX0_entry_0 21 rfl rfl)
theorem dX0_entry_22 : decode cX0_entry 22 = .ok (.getfield 73, 3) := dk_180 0 73 (dk_at dksX0_entry_1 0 rfl rfl)
theorem dX0_entry_25 : decode cX0_entry 25 = .ok (.aload_n 0, 1) := dk_42 (dk_at dksX0_entry_1 3 rfl rfl)
theorem dX0_entry_26 : decode cX0_entry 26 = .ok (.getfield 73, 3) := dk_180 0 73 (dk_at dksX0_entry_1 4 rfl rfl)
theorem dX0_entry_29 : decode cX0_entry 29 = .ok (.lmul, 1) := dk_105 (dk_at dksX0_entry_1 7 rfl rfl)
theorem dX0_entry_30 : decode cX0_entry 30 = .ok (.ldc2_w 15, 3) := dk_20 0 15 (dk_at dksX0_entry_1 8 rfl rfl)
theorem dX0_entry_33 : decode cX0_entry 33 = .ok (.lload_n 3, 1) := dk_33 (dk_at dksX0_entry_1 11 rfl rfl)
theorem dX0_entry_34 : decode cX0_entry 34 = .ok (.lmul, 1) := dk_105 (dk_at dksX0_entry_1 12 rfl rfl)
theorem dX0_entry_35 : decode cX0_entry 35 = .ok (.ladd, 1) := dk_97 (dk_at dksX0_entry_1 13 rfl rfl)
theorem dX0_entry_36 : decode cX0_entry 36 = .ok (.aload_n 0, 1) := dk_42 (dk_at dksX0_entry_1 14 rfl rfl)
theorem dX0_entry_37 : decode cX0_entry 37 = .ok (.invokevirtual 63, 3) := dk_182 0 63 (dk_at dksX0_entry_1 15 rfl rfl)
theorem dX0_entry_40 : decode cX0_entry 40 = .ok (.aload_n 0, 1) := dk_42 (dk_at dksX0_entry_1 18 rfl rfl)
theorem dX0_entry_41 : decode cX0_entry 41 = .ok (.getfield 73, 3) := dk_180 0 73 (dk_at dksX0_entry_1 19 rfl rfl)
theorem dX0_entry_44 : decode cX0_entry 44 = .ok (.aload_n 0, 1) := dk_42 (dk_at dksX0_entry_1 22 rfl rfl)
theorem dX0_entry_45 : decode cX0_entry 45 = .ok (.getfield 73, 3) := dk_180 0 73 (dk_at dksX0_entry_2 0 rfl rfl)
theorem dX0_entry_48 : decode cX0_entry 48 = .ok (.lmul, 1) := dk_105 (dk_at dksX0_entry_2 3 rfl rfl)
theorem dX0_entry_49 : decode cX0_entry 49 = .ok (.lsub, 1) := dk_101 (dk_at dksX0_entry_2 4 rfl rfl)
theorem dX0_entry_50 : decode cX0_entry 50 = .ok (.lsub, 1) := dk_101 (dk_at dksX0_entry_2 5 rfl rfl)
theorem dX0_entry_51 : decode cX0_entry 51 = .ok (.lreturn, 1) := dk_173 (dk_at dksX0_entry_2 6 rfl rfl)
theorem dX0_entry_52 : decode cX0_entry 52 = .ok (.iconst 3, 1) := dk_6 (dk_at dksX0_entry_2 7 rfl rfl)
theorem dX0_entry_53 : decode cX0_entry 53 = .ok (.iload_n 1, 1) := dk_27 (dk_at dksX0_entry_2 8 rfl rfl)
theorem dX0_entry_54 : decode cX0_entry 54 = .ok (.isub, 1) := dk_100 (dk_at dksX0_entry_2 9 rfl rfl)
theorem dX0_entry_55 : decode cX0_entry 55 = .ok (.iload_n 2, 1) := dk_28 (dk_at dksX0_entry_2 10 rfl rfl)
theorem dX0_entry_56 : decode cX0_entry 56 = .ok (.isub, 1) := dk_100 (dk_at dksX0_entry_2 11 rfl rfl)
theorem dX0_entry_57 : decode cX0_entry 57 = .ok (.istore_n 3, 1) := dk_62 (dk_at dksX0_entry_2 12 rfl rfl)
theorem dX0_entry_58 : decode cX0_entry 58 = .ok (.iload_n 2, 1) := dk_28 (dk_at dksX0_entry_2 13 rfl rfl)
theorem dX0_entry_59 : decode cX0_entry 59 = .ok (.iload_n 1, 1) := dk_27 (dk_at dksX0_entry_2 14 rfl rfl)
theorem dX0_entry_60 : decode cX0_entry 60 = .ok (.isub, 1) := dk_100 (dk_at dksX0_entry_2 15 rfl rfl)
theorem dX0_entry_61 : decode cX0_entry 61 = .ok (.iconst 3, 1) := dk_6 (dk_at dksX0_entry_2 16 rfl rfl)
theorem dX0_entry_62 : decode cX0_entry 62 = .ok (.iadd, 1) := dk_96 (dk_at dksX0_entry_2 17 rfl rfl)
theorem dX0_entry_63 : decode cX0_entry 63 = .ok (.iconst 3, 1) := dk_6 (dk_at dksX0_entry_2 18 rfl rfl)
theorem dX0_entry_64 : decode cX0_entry 64 = .ok (.irem, 1) := dk_112 (dk_at dksX0_entry_2 19 rfl rfl)
theorem dX0_entry_65 : decode cX0_entry 65 = .ok (.iconst 1, 1) := dk_4 (dk_at dksX0_entry_2 20 rfl rfl)
theorem dX0_entry_66 : decode cX0_entry 66 = .ok (.if_icmp .ne 9, 3) := dk_160 0 9 (dk_at dksX0_entry_2 21 rfl rfl)
theorem dX0_entry_69 : decode cX0_entry 69 = .ok (.ldc2_w 13, 3) := dk_20 0 13 (dk_at dksX0_entry_3 0 rfl rfl)
theorem dX0_entry_72 : decode cX0_entry 72 = .ok (.goto 4, 3) := dk_167 0 4 (dk_at dksX0_entry_3 3 rfl rfl)
theorem dX0_entry_75 : decode cX0_entry 75 = .ok (.lconst 1, 1) := dk_10 (dk_at dksX0_entry_3 6 rfl rfl)
theorem dX0_entry_76 : decode cX0_entry 76 = .ok (.lstore 4, 2) := dk_55 4 (dk_at dksX0_entry_3 7 rfl rfl)
theorem dX0_entry_78 : decode cX0_entry 78 = .ok (.ldc2_w 15, 3) := dk_20 0 15 (dk_at dksX0_entry_3 9 rfl rfl)
theorem dX0_entry_81 : decode cX0_entry 81 = .ok (.aload_n 0, 1) := dk_42 (dk_at dksX0_entry_3 12 rfl rfl)
theorem dX0_entry_82 : decode cX0_entry 82 = .ok (.iload_n 1, 1) := dk_27 (dk_at dksX0_entry_3 13 rfl rfl)
theorem dX0_entry_83 : decode cX0_entry 83 = .ok (.iconst 1, 1) := dk_4 (dk_at dksX0_entry_3 14 rfl rfl)
theorem dX0_entry_84 : decode cX0_entry 84 = .ok (.iadd, 1) := dk_96 (dk_at dksX0_entry_3 15 rfl rfl)
theorem dX0_entry_85 : decode cX0_entry 85 = .ok (.invokevirtual 144, 3) := dk_182 0 144 (dk_at dksX0_entry_3 16 rfl rfl)
theorem dX0_entry_88 : decode cX0_entry 88 = .ok (.aload_n 0, 1) := dk_42 (dk_at dksX0_entry_3 19 rfl rfl)
theorem dX0_entry_89 : decode cX0_entry 89 = .ok (.iload_n 2, 1) := dk_28 (dk_at dksX0_entry_3 20 rfl rfl)
theorem dX0_entry_90 : decode cX0_entry 90 = .ok (.iconst 1, 1) := dk_4 (dk_at dksX0_entry_3 21 rfl rfl)
theorem dX0_entry_91 : decode cX0_entry 91 = .ok (.iadd, 1) := dk_96 (dk_at dksX0_entry_3 22 rfl rfl)
theorem dX0_entry_92 : decode cX0_entry 92 = .ok (.invokevirtual 144, 3) := dk_182 0 144 (dk_at dksX0_entry_4 0 rfl rfl)
theorem dX0_entry_95 : decode cX0_entry 95 = .ok (.lmul, 1) := dk_105 (dk_at dksX0_entry_4 3 rfl rfl)
theorem dX0_entry_96 : decode cX0_entry 96 = .ok (.lload 4, 2) := dk_22 4 (dk_at dksX0_entry_4 4 rfl rfl)
theorem dX0_entry_98 : decode cX0_entry 98 = .ok (.aload_n 0, 1) := dk_42 (dk_at dksX0_entry_4 6 rfl rfl)
theorem dX0_entry_99 : decode cX0_entry 99 = .ok (.getfield 73, 3) := dk_180 0 73 (dk_at dksX0_entry_4 7 rfl rfl)
theorem dX0_entry_102 : decode cX0_entry 102 = .ok (.lmul, 1) := dk_105 (dk_at dksX0_entry_4 10 rfl rfl)
theorem dX0_entry_103 : decode cX0_entry 103 = .ok (.aload_n 0, 1) := dk_42 (dk_at dksX0_entry_4 11 rfl rfl)
theorem dX0_entry_104 : decode cX0_entry 104 = .ok (.iload_n 3, 1) := dk_29 (dk_at dksX0_entry_4 12 rfl rfl)
theorem dX0_entry_105 : decode cX0_entry 105 = .ok (.iconst 1, 1) := dk_4 (dk_at dksX0_entry_4 13 rfl rfl)
theorem dX0_entry_106 : decode cX0_entry 106 = .ok (.iadd, 1) := dk_96 (dk_at dksX0_entry_4 14 rfl rfl)
theorem dX0_entry_107 : decode cX0_entry 107 = .ok (.invokevirtual 144, 3) := dk_182 0 144 (dk_at dksX0_entry_4 15 rfl rfl)
theorem dX0_entry_110 : decode cX0_entry 110 = .ok (.lmul, 1) := dk_105 (dk_at dksX0_entry_4 18 rfl rfl)
theorem dX0_entry_111 : decode cX0_entry 111 = .ok (.ladd, 1) := dk_97 (dk_at dksX0_entry_4 19 rfl rfl)
theorem dX0_entry_112 : decode cX0_entry 112 = .ok (.lmul, 1) := dk_105 (dk_at dksX0_entry_4 20 rfl rfl)
theorem dX0_entry_113 : decode cX0_entry 113 = .ok (.lreturn, 1) := dk_173 (dk_at dksX0_entry_4 21 rfl rfl)
abbrev cX0_turned : ByteArray := prog_1_method_36_code
def yX0_turned : MethodName := ⟨RX0, "turned", "(IIIII)J"⟩
def dkwX0_turned_5 : List UInt8 := [25, 7, 21, 5, 4, 96, 182, 0, 144, 20, 0, 15, 109, 173]
abbrev dktX0_turned_5 : List UInt8 := dkwX0_turned_5 ++ []
def dkwX0_turned_4 : List UInt8 := [20, 0, 15, 21, 4, 133, 105, 183, 0, 59, 182, 0, 170, 25, 6, 182, 0, 174, 182, 0, 170, 58, 7]
abbrev dktX0_turned_4 : List UInt8 := dkwX0_turned_4 ++ dktX0_turned_5
def dkwX0_turned_3 : List UInt8 := [27, 50, 58, 6, 25, 6, 187, 0, 57, 89, 9, 20, 0, 15, 28, 133, 105, 20, 0, 15, 29, 133, 105]
abbrev dktX0_turned_3 : List UInt8 := dkwX0_turned_3 ++ dktX0_turned_4
def dkwX0_turned_2 : List UInt8 := [153, 0, 16, 21, 5, 133, 9, 20, 0, 15, 184, 0, 5, 154, 0, 7, 20, 0, 13, 173, 42, 180, 0, 117]
abbrev dktX0_turned_2 : List UInt8 := dkwX0_turned_2 ++ dktX0_turned_3
def dkwX0_turned_1 : List UInt8 := [20, 0, 237, 20, 0, 239, 184, 0, 5, 153, 0, 31, 21, 4, 133, 20, 0, 237, 20, 0, 239, 184, 0, 5]
abbrev dktX0_turned_1 : List UInt8 := dkwX0_turned_1 ++ dktX0_turned_2
def dkwX0_turned_0 : List UInt8 := [27, 184, 0, 128, 153, 0, 59, 28, 133, 20, 0, 237, 20, 0, 239, 184, 0, 5, 153, 0, 45, 29, 133]
abbrev dktX0_turned_0 : List UInt8 := dkwX0_turned_0 ++ dktX0_turned_1
theorem dksX0_turned_0 : cX0_turned.data.toList.drop 0 = dktX0_turned_0 := by decide +kernel
theorem dksX0_turned_1 : cX0_turned.data.toList.drop 23 = dktX0_turned_1 := dk_seg dksX0_turned_0 23 rfl rfl
theorem dksX0_turned_2 : cX0_turned.data.toList.drop 47 = dktX0_turned_2 := dk_seg dksX0_turned_1 24 rfl rfl
theorem dksX0_turned_3 : cX0_turned.data.toList.drop 71 = dktX0_turned_3 := dk_seg dksX0_turned_2 24 rfl rfl
theorem dksX0_turned_4 : cX0_turned.data.toList.drop 94 = dktX0_turned_4 := dk_seg dksX0_turned_3 23 rfl rfl
theorem dksX0_turned_5 : cX0_turned.data.toList.drop 117 = dktX0_turned_5 := dk_seg dksX0_turned_4 23 rfl rfl
theorem dX0_turned_0 : decode cX0_turned 0 = .ok (.iload_n 1, 1) := dk_27 (dk_at dksX0_turned_0 0 rfl rfl)
theorem dX0_turned_1 : decode cX0_turned 1 = .ok (.invokestatic 128, 3) := dk_184 0 128 (dk_at dksX0_turned_0 1 rfl rfl)
theorem dX0_turned_4 : decode cX0_turned 4 = .ok (.ifCond .eq 59, 3) := dk_153 0 59 (dk_at dksX0_turned_0 4 rfl rfl)
theorem dX0_turned_7 : decode cX0_turned 7 = .ok (.iload_n 2, 1) := dk_28 (dk_at dksX0_turned_0 7 rfl rfl)
theorem dX0_turned_8 : decode cX0_turned 8 = .ok (.i2l, 1) := dk_133 (dk_at dksX0_turned_0 8 rfl rfl)
theorem dX0_turned_9 : decode cX0_turned 9 = .ok (.ldc2_w 237, 3) := dk_20 0 237 (dk_at dksX0_turned_0 9 rfl rfl)
theorem dX0_turned_12 : decode cX0_turned 12 = .ok (.ldc2_w 239, 3) := dk_20 0 239 (dk_at dksX0_turned_0 12 rfl rfl)
theorem dX0_turned_15 : decode cX0_turned 15 = .ok (.invokestatic 5, 3) := dk_184 0 5 (dk_at dksX0_turned_0 15 rfl rfl)
theorem dX0_turned_18 : decode cX0_turned 18 = .ok (.ifCond .eq 45, 3) := dk_153 0 45 (dk_at dksX0_turned_0 18 rfl rfl)
theorem dX0_turned_21 : decode cX0_turned 21 = .ok (.iload_n 3, 1) := dk_29 (dk_at dksX0_turned_0 21 rfl rfl)
theorem dX0_turned_22 : decode cX0_turned 22 = .ok (.i2l, 1) := dk_133 (dk_at dksX0_turned_0 22 rfl rfl)
theorem dX0_turned_23 : decode cX0_turned 23 = .ok (.ldc2_w 237, 3) := dk_20 0 237 (dk_at dksX0_turned_1 0 rfl rfl)
theorem dX0_turned_26 : decode cX0_turned 26 = .ok (.ldc2_w 239, 3) := dk_20 0 239 (dk_at dksX0_turned_1 3 rfl rfl)
theorem dX0_turned_29 : decode cX0_turned 29 = .ok (.invokestatic 5, 3) := dk_184 0 5 (dk_at dksX0_turned_1 6 rfl rfl)
theorem dX0_turned_32 : decode cX0_turned 32 = .ok (.ifCond .eq 31, 3) := dk_153 0 31 (dk_at dksX0_turned_1 9 rfl rfl)
theorem dX0_turned_35 : decode cX0_turned 35 = .ok (.iload 4, 2) := dk_21 4 (dk_at dksX0_turned_1 12 rfl rfl)
theorem dX0_turned_37 : decode cX0_turned 37 = .ok (.i2l, 1) := dk_133 (dk_at dksX0_turned_1 14 rfl rfl)
theorem dX0_turned_38 : decode cX0_turned 38 = .ok (.ldc2_w 237, 3) := dk_20 0 237 (dk_at dksX0_turned_1 15 rfl rfl)
theorem dX0_turned_41 : decode cX0_turned 41 = .ok (.ldc2_w 239, 3) := dk_20 0 239 (dk_at dksX0_turned_1 18 rfl rfl)
theorem dX0_turned_44 : decode cX0_turned 44 = .ok (.invokestatic 5, 3) := dk_184 0 5 (dk_at dksX0_turned_1 21 rfl rfl)
theorem dX0_turned_47 : decode cX0_turned 47 = .ok (.ifCond .eq 16, 3) := dk_153 0 16 (dk_at dksX0_turned_2 0 rfl rfl)
theorem dX0_turned_50 : decode cX0_turned 50 = .ok (.iload 5, 2) := dk_21 5 (dk_at dksX0_turned_2 3 rfl rfl)
theorem dX0_turned_52 : decode cX0_turned 52 = .ok (.i2l, 1) := dk_133 (dk_at dksX0_turned_2 5 rfl rfl)
theorem dX0_turned_53 : decode cX0_turned 53 = .ok (.lconst 0, 1) := dk_9 (dk_at dksX0_turned_2 6 rfl rfl)
theorem dX0_turned_54 : decode cX0_turned 54 = .ok (.ldc2_w 15, 3) := dk_20 0 15 (dk_at dksX0_turned_2 7 rfl rfl)
theorem dX0_turned_57 : decode cX0_turned 57 = .ok (.invokestatic 5, 3) := dk_184 0 5 (dk_at dksX0_turned_2 10 rfl rfl)
theorem dX0_turned_60 : decode cX0_turned 60 = .ok (.ifCond .ne 7, 3) := dk_154 0 7 (dk_at dksX0_turned_2 13 rfl rfl)
theorem dX0_turned_63 : decode cX0_turned 63 = .ok (.ldc2_w 13, 3) := dk_20 0 13 (dk_at dksX0_turned_2 16 rfl rfl)
theorem dX0_turned_66 : decode cX0_turned 66 = .ok (.lreturn, 1) := dk_173 (dk_at dksX0_turned_2 19 rfl rfl)
theorem dX0_turned_67 : decode cX0_turned 67 = .ok (.aload_n 0, 1) := dk_42 (dk_at dksX0_turned_2 20 rfl rfl)
theorem dX0_turned_68 : decode cX0_turned 68 = .ok (.getfield 117, 3) := dk_180 0 117 (dk_at dksX0_turned_2 21 rfl rfl)
theorem dX0_turned_71 : decode cX0_turned 71 = .ok (.iload_n 1, 1) := dk_27 (dk_at dksX0_turned_3 0 rfl rfl)
theorem dX0_turned_72 : decode cX0_turned 72 = .ok (.aaload, 1) := dk_50 (dk_at dksX0_turned_3 1 rfl rfl)
theorem dX0_turned_73 : decode cX0_turned 73 = .ok (.astore 6, 2) := dk_58 6 (dk_at dksX0_turned_3 2 rfl rfl)
theorem dX0_turned_75 : decode cX0_turned 75 = .ok (.aload 6, 2) := dk_25 6 (dk_at dksX0_turned_3 4 rfl rfl)
theorem dX0_turned_77 : decode cX0_turned 77 = .ok (.new 57, 3) := dk_187 0 57 (dk_at dksX0_turned_3 6 rfl rfl)
theorem dX0_turned_80 : decode cX0_turned 80 = .ok (.dup, 1) := dk_89 (dk_at dksX0_turned_3 9 rfl rfl)
theorem dX0_turned_81 : decode cX0_turned 81 = .ok (.lconst 0, 1) := dk_9 (dk_at dksX0_turned_3 10 rfl rfl)
theorem dX0_turned_82 : decode cX0_turned 82 = .ok (.ldc2_w 15, 3) := dk_20 0 15 (dk_at dksX0_turned_3 11 rfl rfl)
theorem dX0_turned_85 : decode cX0_turned 85 = .ok (.iload_n 2, 1) := dk_28 (dk_at dksX0_turned_3 14 rfl rfl)
theorem dX0_turned_86 : decode cX0_turned 86 = .ok (.i2l, 1) := dk_133 (dk_at dksX0_turned_3 15 rfl rfl)
theorem dX0_turned_87 : decode cX0_turned 87 = .ok (.lmul, 1) := dk_105 (dk_at dksX0_turned_3 16 rfl rfl)
theorem dX0_turned_88 : decode cX0_turned 88 = .ok (.ldc2_w 15, 3) := dk_20 0 15 (dk_at dksX0_turned_3 17 rfl rfl)
theorem dX0_turned_91 : decode cX0_turned 91 = .ok (.iload_n 3, 1) := dk_29 (dk_at dksX0_turned_3 20 rfl rfl)
theorem dX0_turned_92 : decode cX0_turned 92 = .ok (.i2l, 1) := dk_133 (dk_at dksX0_turned_3 21 rfl rfl)
theorem dX0_turned_93 : decode cX0_turned 93 = .ok (.lmul, 1) := dk_105 (dk_at dksX0_turned_3 22 rfl rfl)
theorem dX0_turned_94 : decode cX0_turned 94 = .ok (.ldc2_w 15, 3) := dk_20 0 15 (dk_at dksX0_turned_4 0 rfl rfl)
theorem dX0_turned_97 : decode cX0_turned 97 = .ok (.iload 4, 2) := dk_21 4 (dk_at dksX0_turned_4 3 rfl rfl)
theorem dX0_turned_99 : decode cX0_turned 99 = .ok (.i2l, 1) := dk_133 (dk_at dksX0_turned_4 5 rfl rfl)
theorem dX0_turned_100 : decode cX0_turned 100 = .ok (.lmul, 1) := dk_105 (dk_at dksX0_turned_4 6 rfl rfl)
theorem dX0_turned_101 : decode cX0_turned 101 = .ok (.invokespecial 59, 3) := dk_183 0 59 (dk_at dksX0_turned_4 7 rfl rfl)
theorem dX0_turned_104 : decode cX0_turned 104 = .ok (.invokevirtual 170, 3) := dk_182 0 170 (dk_at dksX0_turned_4 10 rfl rfl)
theorem dX0_turned_107 : decode cX0_turned 107 = .ok (.aload 6, 2) := dk_25 6 (dk_at dksX0_turned_4 13 rfl rfl)
theorem dX0_turned_109 : decode cX0_turned 109 = .ok (.invokevirtual 174, 3) := dk_182 0 174 (dk_at dksX0_turned_4 15 rfl rfl)
theorem dX0_turned_112 : decode cX0_turned 112 = .ok (.invokevirtual 170, 3) := dk_182 0 170 (dk_at dksX0_turned_4 18 rfl rfl)
theorem dX0_turned_115 : decode cX0_turned 115 = .ok (.astore 7, 2) := dk_58 7 (dk_at dksX0_turned_4 21 rfl rfl)
theorem dX0_turned_117 : decode cX0_turned 117 = .ok (.aload 7, 2) := dk_25 7 (dk_at dksX0_turned_5 0 rfl rfl)
theorem dX0_turned_119 : decode cX0_turned 119 = .ok (.iload 5, 2) := dk_21 5 (dk_at dksX0_turned_5 2 rfl rfl)
theorem dX0_turned_121 : decode cX0_turned 121 = .ok (.iconst 1, 1) := dk_4 (dk_at dksX0_turned_5 4 rfl rfl)
theorem dX0_turned_122 : decode cX0_turned 122 = .ok (.iadd, 1) := dk_96 (dk_at dksX0_turned_5 5 rfl rfl)
theorem dX0_turned_123 : decode cX0_turned 123 = .ok (.invokevirtual 144, 3) := dk_182 0 144 (dk_at dksX0_turned_5 6 rfl rfl)
theorem dX0_turned_126 : decode cX0_turned 126 = .ok (.ldc2_w 15, 3) := dk_20 0 15 (dk_at dksX0_turned_5 9 rfl rfl)
theorem dX0_turned_129 : decode cX0_turned 129 = .ok (.ldiv, 1) := dk_109 (dk_at dksX0_turned_5 12 rfl rfl)
theorem dX0_turned_130 : decode cX0_turned 130 = .ok (.lreturn, 1) := dk_173 (dk_at dksX0_turned_5 13 rfl rfl)
theorem q19 : (Jvm.Cond.initialized "FourParts") ∈ lw_all := lw_g (lw_at lw_m1 1 rfl) rfl
theorem q38 : (Jvm.Cond.instanceMethod ({ cls := "FourParts", name := "sheet", desc := "(III)I" } : Jvm.MethodName)) ∈ lw_all := lw_g (lw_at lw_m1 20 rfl) rfl
theorem q39 : (Jvm.Cond.selects "FourParts" ({ cls := "FourParts", name := "sheet", desc := "(III)I" } : Jvm.MethodName) ({ cls := "FourParts", name := "sheet", desc := "(III)I" } : Jvm.MethodName)) ∈ lw_all := lw_g (lw_at lw_m1 21 rfl) rfl
theorem q40 : (Jvm.Cond.codeWith ({ cls := "FourParts", name := "sheet", desc := "(III)I" } : Jvm.MethodName) prog_1_method_4_code (5 : Nat) (Option.some Jvm.ClassFile.FieldType.int) [((33 : Nat), (53 : Nat), (54 : Nat), (25 : Nat))]) ∈ lw_all := lw_g (lw_at lw_m1 22 rfl) rfl
theorem q41 : (Jvm.Cond.classLink "FourParts" (25 : Nat) "java/lang/NegativeArraySizeException") ∈ lw_all := lw_g (lw_at lw_m1 23 rfl) rfl
theorem q127 : (Jvm.Cond.methodLink "FourParts" (9 : Nat) ({ cls := "FourParts", name := "isSheet", desc := "(I)Z" } : Jvm.MethodName)) ∈ lw_all := lw_g (lw_at lw_m1 109 rfl) rfl
theorem q128 : (Jvm.Cond.static ({ cls := "FourParts", name := "isSheet", desc := "(I)Z" } : Jvm.MethodName)) ∈ lw_all := lw_g (lw_at lw_m1 110 rfl) rfl
theorem q129 : (Jvm.Cond.code ({ cls := "FourParts", name := "isSheet", desc := "(I)Z" } : Jvm.MethodName) prog_1_method_3_code (1 : Nat) (Option.some Jvm.ClassFile.FieldType.boolean)) ∈ lw_all := lw_g (lw_at lw_m1 111 rfl) rfl
theorem q130 : (Jvm.Cond.constantLong "FourParts" (3 : Nat) (5 : Int64)) ∈ lw_all := lw_g (lw_at lw_m1 112 rfl) rfl
theorem q131 : (Jvm.Cond.methodLink "FourParts" (5 : Nat) ({ cls := "FourParts", name := "isIn", desc := "(JJJ)Z" } : Jvm.MethodName)) ∈ lw_all := lw_g (lw_at lw_m1 113 rfl) rfl
theorem q132 : (Jvm.Cond.static ({ cls := "FourParts", name := "isIn", desc := "(JJJ)Z" } : Jvm.MethodName)) ∈ lw_all := lw_g (lw_at lw_m1 114 rfl) rfl
theorem q133 : (Jvm.Cond.code ({ cls := "FourParts", name := "isIn", desc := "(JJJ)Z" } : Jvm.MethodName) prog_1_method_1_code (6 : Nat) (Option.some Jvm.ClassFile.FieldType.boolean)) ∈ lw_all := lw_g (lw_at lw_m1 115 rfl) rfl
theorem q134 : (Jvm.Cond.constantLong "FourParts" (13 : Nat) (-1 : Int64)) ∈ lw_all := lw_g (lw_at lw_m1 116 rfl) rfl
theorem q135 : (Jvm.Cond.constantLong "FourParts" (15 : Nat) (2 : Int64)) ∈ lw_all := lw_g (lw_at lw_m1 117 rfl) rfl
theorem q136 : (Jvm.Cond.methodLink "FourParts" (21 : Nat) ({ cls := "FourParts", name := "rowOf", desc := "(II)Ljava/lang/Object;" } : Jvm.MethodName)) ∈ lw_all := lw_g (lw_at lw_m1 118 rfl) rfl
theorem q137 : (Jvm.Cond.static ({ cls := "FourParts", name := "rowOf", desc := "(II)Ljava/lang/Object;" } : Jvm.MethodName)) ∈ lw_all := lw_g (lw_at lw_m1 119 rfl) rfl
theorem q138 : (Jvm.Cond.code ({ cls := "FourParts", name := "rowOf", desc := "(II)Ljava/lang/Object;" } : Jvm.MethodName) prog_1_method_2_code (2 : Nat) (Option.some (Jvm.ClassFile.FieldType.object "java/lang/Object"))) ∈ lw_all := lw_g (lw_at lw_m1 120 rfl) rfl
theorem q142 : (Jvm.Cond.instanceMethod ({ cls := "FourParts", name := "put", desc := "(IIJ)I" } : Jvm.MethodName)) ∈ lw_all := lw_g (lw_at lw_m1 124 rfl) rfl
theorem q143 : (Jvm.Cond.selects "FourParts" ({ cls := "FourParts", name := "put", desc := "(IIJ)I" } : Jvm.MethodName) ({ cls := "FourParts", name := "put", desc := "(IIJ)I" } : Jvm.MethodName)) ∈ lw_all := lw_g (lw_at lw_m1 125 rfl) rfl
theorem q144 : (Jvm.Cond.codeWith ({ cls := "FourParts", name := "put", desc := "(IIJ)I" } : Jvm.MethodName) prog_1_method_6_code (6 : Nat) (Option.some Jvm.ClassFile.FieldType.int) [((9 : Nat), (21 : Nat), (22 : Nat), (37 : Nat)), ((9 : Nat), (21 : Nat), (27 : Nat), (39 : Nat))]) ∈ lw_all := lw_g (lw_at lw_m1 126 rfl) rfl
theorem q145 : (Jvm.Cond.classLink "FourParts" (37 : Nat) "java/lang/NullPointerException") ∈ lw_all := lw_g (lw_at lw_m1 127 rfl) rfl
theorem q170 : (Jvm.Cond.classLink "FourParts" (39 : Nat) "java/lang/ArrayIndexOutOfBoundsException") ∈ lw_all := lw_g (lw_at lw_m1 152 rfl) rfl
theorem q195 : (Jvm.Cond.methodLink "FourParts" (33 : Nat) ({ cls := "FourParts", name := "store", desc := "(Ljava/lang/Object;IJ)V" } : Jvm.MethodName)) ∈ lw_all := lw_g (lw_at lw_m1 177 rfl) rfl
theorem q196 : (Jvm.Cond.static ({ cls := "FourParts", name := "store", desc := "(Ljava/lang/Object;IJ)V" } : Jvm.MethodName)) ∈ lw_all := lw_g (lw_at lw_m1 178 rfl) rfl
theorem q197 : (Jvm.Cond.code ({ cls := "FourParts", name := "store", desc := "(Ljava/lang/Object;IJ)V" } : Jvm.MethodName) prog_1_method_5_code (4 : Nat) (Option.none : Option Jvm.ClassFile.FieldType)) ∈ lw_all := lw_g (lw_at lw_m1 179 rfl) rfl
theorem q198 : (Jvm.Cond.classLink "FourParts" (27 : Nat) "[B") ∈ lw_all := lw_g (lw_at lw_m1 180 rfl) rfl
theorem q199 : (Jvm.Cond.classLink "FourParts" (29 : Nat) "[I") ∈ lw_all := lw_g (lw_at lw_m1 181 rfl) rfl
theorem q200 : (Jvm.Cond.classLink "FourParts" (31 : Nat) "[J") ∈ lw_all := lw_g (lw_at lw_m1 182 rfl) rfl
theorem q202 : (Jvm.Cond.instanceMethod ({ cls := "FourParts", name := "copy", desc := "(IIIII)I" } : Jvm.MethodName)) ∈ lw_all := lw_g (lw_at lw_m1 184 rfl) rfl
theorem q203 : (Jvm.Cond.selects "FourParts" ({ cls := "FourParts", name := "copy", desc := "(IIIII)I" } : Jvm.MethodName) ({ cls := "FourParts", name := "copy", desc := "(IIIII)I" } : Jvm.MethodName)) ∈ lw_all := lw_g (lw_at lw_m1 185 rfl) rfl
theorem q204 : (Jvm.Cond.codeWith ({ cls := "FourParts", name := "copy", desc := "(IIIII)I" } : Jvm.MethodName) prog_1_method_9_code (7 : Nat) (Option.some Jvm.ClassFile.FieldType.int) [((37 : Nat), (58 : Nat), (59 : Nat), (37 : Nat)), ((37 : Nat), (58 : Nat), (64 : Nat), (55 : Nat))]) ∈ lw_all := lw_g (lw_at lw_m1 186 rfl) rfl
theorem q205 : (Jvm.Cond.classLink "FourParts" (55 : Nat) "java/lang/IndexOutOfBoundsException") ∈ lw_all := lw_g (lw_at lw_m1 187 rfl) rfl
theorem q206 : (Jvm.Cond.methodLink "FourParts" (45 : Nat) ({ cls := "FourParts", name := "areUnlike", desc := "(Ljava/lang/Object;Ljava/lang/Object;)Z" } : Jvm.MethodName)) ∈ lw_all := lw_g (lw_at lw_m1 188 rfl) rfl
theorem q207 : (Jvm.Cond.static ({ cls := "FourParts", name := "areUnlike", desc := "(Ljava/lang/Object;Ljava/lang/Object;)Z" } : Jvm.MethodName)) ∈ lw_all := lw_g (lw_at lw_m1 189 rfl) rfl
theorem q208 : (Jvm.Cond.code ({ cls := "FourParts", name := "areUnlike", desc := "(Ljava/lang/Object;Ljava/lang/Object;)Z" } : Jvm.MethodName) prog_1_method_8_code (2 : Nat) (Option.some Jvm.ClassFile.FieldType.boolean)) ∈ lw_all := lw_g (lw_at lw_m1 190 rfl) rfl
theorem q209 : (Jvm.Cond.methodLink "FourParts" (41 : Nat) ({ cls := "FourParts", name := "sortOf", desc := "(Ljava/lang/Object;)I" } : Jvm.MethodName)) ∈ lw_all := lw_g (lw_at lw_m1 191 rfl) rfl
theorem q210 : (Jvm.Cond.static ({ cls := "FourParts", name := "sortOf", desc := "(Ljava/lang/Object;)I" } : Jvm.MethodName)) ∈ lw_all := lw_g (lw_at lw_m1 192 rfl) rfl
theorem q211 : (Jvm.Cond.code ({ cls := "FourParts", name := "sortOf", desc := "(Ljava/lang/Object;)I" } : Jvm.MethodName) prog_1_method_7_code (1 : Nat) (Option.some Jvm.ClassFile.FieldType.int)) ∈ lw_all := lw_g (lw_at lw_m1 193 rfl) rfl
theorem q212 : (Jvm.Cond.methodLink "FourParts" (49 : Nat) ({ cls := "java/lang/System", name := "arraycopy", desc := "(Ljava/lang/Object;ILjava/lang/Object;II)V" } : Jvm.MethodName)) ∈ lw_all := lw_g (lw_at lw_m1 194 rfl) rfl
theorem q216 : (Jvm.Cond.instantiable "FourParts" (5 : Nat)) ∈ lw_all := lw_g (lw_at lw_m1 198 rfl) rfl
theorem q218 : (Jvm.Cond.instanceMethod ({ cls := "FourParts", name := "<init>", desc := "()V" } : Jvm.MethodName)) ∈ lw_all := lw_g (lw_at lw_m1 200 rfl) rfl
theorem q219 : (Jvm.Cond.code ({ cls := "FourParts", name := "<init>", desc := "()V" } : Jvm.MethodName) prog_1_method_13_code (1 : Nat) (Option.none : Option Jvm.ClassFile.FieldType)) ∈ lw_all := lw_g (lw_at lw_m1 201 rfl) rfl
theorem q220 : (Jvm.Cond.methodLink "FourParts" (90 : Nat) ({ cls := "java/lang/Object", name := "<init>", desc := "()V" } : Jvm.MethodName)) ∈ lw_all := lw_g (lw_at lw_m1 202 rfl) rfl
theorem q221 : (Jvm.Cond.classLink "FourParts" (91 : Nat) "java/lang/Object") ∈ lw_all := lw_g (lw_at lw_m1 203 rfl) rfl
theorem q223 : (Jvm.Cond.methodLink "FourParts" (95 : Nat) ({ cls := "FourParts", name := "units", desc := "()[LFourParts$Four;" } : Jvm.MethodName)) ∈ lw_all := lw_g (lw_at lw_m1 205 rfl) rfl
theorem q224 : (Jvm.Cond.static ({ cls := "FourParts", name := "units", desc := "()[LFourParts$Four;" } : Jvm.MethodName)) ∈ lw_all := lw_g (lw_at lw_m1 206 rfl) rfl
theorem q225 : (Jvm.Cond.code ({ cls := "FourParts", name := "units", desc := "()[LFourParts$Four;" } : Jvm.MethodName) prog_1_method_10_code (6 : Nat) (Option.some (Jvm.ClassFile.FieldType.array (Jvm.ClassFile.FieldType.object "FourParts$Four")))) ∈ lw_all := lw_g (lw_at lw_m1 207 rfl) rfl
theorem q226 : (Jvm.Cond.classLink "FourParts" (57 : Nat) "FourParts$Four") ∈ lw_all := lw_g (lw_at lw_m1 208 rfl) rfl
theorem q229 : (Jvm.Cond.methodLink "FourParts" (59 : Nat) ({ cls := "FourParts$Four", name := "<init>", desc := "(JJJJ)V" } : Jvm.MethodName)) ∈ lw_all := lw_g (lw_at lw_m1 211 rfl) rfl
theorem q234 : (Jvm.Cond.fieldLink "FourParts" (73 : Nat) "FourParts$Four" "a" "J") ∈ lw_all := lw_g (lw_at lw_m1 216 rfl) rfl
theorem q236 : (Jvm.Cond.fieldLink "FourParts" (77 : Nat) "FourParts$Four" "b" "J") ∈ lw_all := lw_g (lw_at lw_m1 218 rfl) rfl
theorem q238 : (Jvm.Cond.fieldLink "FourParts" (80 : Nat) "FourParts$Four" "c" "J") ∈ lw_all := lw_g (lw_at lw_m1 220 rfl) rfl
theorem q240 : (Jvm.Cond.fieldLink "FourParts" (83 : Nat) "FourParts$Four" "d" "J") ∈ lw_all := lw_g (lw_at lw_m1 222 rfl) rfl
theorem q265 : (Jvm.Cond.constantLong "FourParts" (67 : Nat) (4 : Int64)) ∈ lw_all := lw_g (lw_at lw_m2 7 rfl) rfl
theorem q266 : (Jvm.Cond.methodLink "FourParts" (69 : Nat) ({ cls := "FourParts", name := "isAlike", desc := "(LFourParts$Four;)Z" } : Jvm.MethodName)) ∈ lw_all := lw_g (lw_at lw_m2 8 rfl) rfl
theorem q267 : (Jvm.Cond.static ({ cls := "FourParts", name := "isAlike", desc := "(LFourParts$Four;)Z" } : Jvm.MethodName)) ∈ lw_all := lw_g (lw_at lw_m2 9 rfl) rfl
theorem q268 : (Jvm.Cond.code ({ cls := "FourParts", name := "isAlike", desc := "(LFourParts$Four;)Z" } : Jvm.MethodName) prog_1_method_11_code (1 : Nat) (Option.some Jvm.ClassFile.FieldType.boolean)) ∈ lw_all := lw_g (lw_at lw_m2 10 rfl) rfl
theorem q269 : (Jvm.Cond.classLink "FourParts" (102 : Nat) "FourParts$Side") ∈ lw_all := lw_g (lw_at lw_m2 11 rfl) rfl
theorem q271 : (Jvm.Cond.classLink "FourParts" (104 : Nat) "FourParts$Right") ∈ lw_all := lw_g (lw_at lw_m2 13 rfl) rfl
theorem q273 : (Jvm.Cond.methodLinkNest "FourParts" (106 : Nat) ({ cls := "FourParts$Right", name := "<init>", desc := "()V" } : Jvm.MethodName) "FourParts") ∈ lw_tbl := lw_at lw_m2 15 rfl
theorem q281 : (Jvm.Cond.classLink "FourParts" (107 : Nat) "FourParts$Left") ∈ lw_all := lw_g (lw_at lw_m2 23 rfl) rfl
theorem q283 : (Jvm.Cond.methodLinkNest "FourParts" (109 : Nat) ({ cls := "FourParts$Left", name := "<init>", desc := "()V" } : Jvm.MethodName) "FourParts") ∈ lw_tbl := lw_at lw_m2 25 rfl
theorem q288 : (Jvm.Cond.methodLink "FourParts" (114 : Nat) ({ cls := "FourParts", name := "registers", desc := "()[LFourParts$Four;" } : Jvm.MethodName)) ∈ lw_all := lw_g (lw_at lw_m2 30 rfl) rfl
theorem q289 : (Jvm.Cond.static ({ cls := "FourParts", name := "registers", desc := "()[LFourParts$Four;" } : Jvm.MethodName)) ∈ lw_all := lw_g (lw_at lw_m2 31 rfl) rfl
theorem q290 : (Jvm.Cond.code ({ cls := "FourParts", name := "registers", desc := "()[LFourParts$Four;" } : Jvm.MethodName) prog_1_method_12_code (2 : Nat) (Option.some (Jvm.ClassFile.FieldType.array (Jvm.ClassFile.FieldType.object "FourParts$Four")))) ∈ lw_all := lw_g (lw_at lw_m2 32 rfl) rfl
theorem q291 : (Jvm.Cond.fieldLink "FourParts" (86 : Nat) "FourParts" "NOUGHT" "LFourParts$Four;") ∈ lw_all := lw_g (lw_at lw_m2 33 rfl) rfl
theorem q292 : (Jvm.Cond.laysStatic "FourParts" "NOUGHT" "LFourParts$Four;") ∈ lw_tbl := lw_at lw_m2 34 rfl
theorem q293 : (Jvm.Cond.fieldLink "FourParts" (17 : Nat) "FourParts" "sheets" "[Ljava/lang/Object;") ∈ lw_all := lw_g (lw_at lw_m2 35 rfl) rfl
theorem q294 : (Jvm.Cond.fieldLink "FourParts" (99 : Nat) "FourParts" "units" "[LFourParts$Four;") ∈ lw_all := lw_g (lw_at lw_m2 36 rfl) rfl
theorem q295 : (Jvm.Cond.fieldLink "FourParts" (110 : Nat) "FourParts" "sides" "[LFourParts$Side;") ∈ lw_all := lw_g (lw_at lw_m2 37 rfl) rfl
theorem q296 : (Jvm.Cond.fieldLink "FourParts" (117 : Nat) "FourParts" "registers" "[LFourParts$Four;") ∈ lw_all := lw_g (lw_at lw_m2 38 rfl) rfl
theorem q297 : (Jvm.Cond.fieldLink "FourParts" (119 : Nat) "FourParts" "factors" "[LFourParts$Four;") ∈ lw_all := lw_g (lw_at lw_m2 39 rfl) rfl
theorem q298 : (Jvm.Cond.laysFinal "FourParts" "FourParts" "sheets" "[Ljava/lang/Object;") ∈ lw_all := lw_g (lw_at lw_m2 40 rfl) rfl
theorem q299 : (Jvm.Cond.soleField "FourParts" "sheets") ∈ lw_all := lw_g (lw_at lw_m2 41 rfl) rfl
theorem q300 : (Jvm.Cond.laysFinal "FourParts" "FourParts" "units" "[LFourParts$Four;") ∈ lw_all := lw_g (lw_at lw_m2 42 rfl) rfl
theorem q301 : (Jvm.Cond.soleField "FourParts" "units") ∈ lw_all := lw_g (lw_at lw_m2 43 rfl) rfl
theorem q302 : (Jvm.Cond.laysFinal "FourParts" "FourParts" "sides" "[LFourParts$Side;") ∈ lw_all := lw_g (lw_at lw_m2 44 rfl) rfl
theorem q303 : (Jvm.Cond.soleField "FourParts" "sides") ∈ lw_all := lw_g (lw_at lw_m2 45 rfl) rfl
theorem q304 : (Jvm.Cond.laysFinal "FourParts" "FourParts" "registers" "[LFourParts$Four;") ∈ lw_all := lw_g (lw_at lw_m2 46 rfl) rfl
theorem q305 : (Jvm.Cond.soleField "FourParts" "registers") ∈ lw_all := lw_g (lw_at lw_m2 47 rfl) rfl
theorem q306 : (Jvm.Cond.lays "FourParts" "FourParts" "factors" "[LFourParts$Four;") ∈ lw_all := lw_g (lw_at lw_m2 48 rfl) rfl
theorem q307 : (Jvm.Cond.soleField "FourParts" "factors") ∈ lw_all := lw_g (lw_at lw_m2 49 rfl) rfl
theorem q308 : (Jvm.Cond.superclass "FourParts" "java/lang/Object") ∈ lw_all := lw_g (lw_at lw_m2 50 rfl) rfl
theorem q310 : (Jvm.Cond.instanceMethod ({ cls := "FourParts", name := "read", desc := "(III)I" } : Jvm.MethodName)) ∈ lw_all := lw_g (lw_at lw_m2 52 rfl) rfl
theorem q311 : (Jvm.Cond.selects "FourParts" ({ cls := "FourParts", name := "read", desc := "(III)I" } : Jvm.MethodName) ({ cls := "FourParts", name := "read", desc := "(III)I" } : Jvm.MethodName)) ∈ lw_all := lw_g (lw_at lw_m2 53 rfl) rfl
theorem q312 : (Jvm.Cond.codeWith ({ cls := "FourParts", name := "read", desc := "(III)I" } : Jvm.MethodName) prog_1_method_16_code (7 : Nat) (Option.some Jvm.ClassFile.FieldType.int) [((16 : Nat), (89 : Nat), (92 : Nat), (37 : Nat)), ((16 : Nat), (89 : Nat), (97 : Nat), (39 : Nat))]) ∈ lw_all := lw_g (lw_at lw_m2 54 rfl) rfl
theorem q313 : (Jvm.Cond.methodLink "FourParts" (128 : Nat) ({ cls := "FourParts", name := "isRegister", desc := "(I)Z" } : Jvm.MethodName)) ∈ lw_all := lw_g (lw_at lw_m2 55 rfl) rfl
theorem q314 : (Jvm.Cond.static ({ cls := "FourParts", name := "isRegister", desc := "(I)Z" } : Jvm.MethodName)) ∈ lw_all := lw_g (lw_at lw_m2 56 rfl) rfl
theorem q315 : (Jvm.Cond.code ({ cls := "FourParts", name := "isRegister", desc := "(I)Z" } : Jvm.MethodName) prog_1_method_14_code (1 : Nat) (Option.some Jvm.ClassFile.FieldType.boolean)) ∈ lw_all := lw_g (lw_at lw_m2 57 rfl) rfl
theorem q316 : (Jvm.Cond.constantLong "FourParts" (122 : Nat) (15 : Int64)) ∈ lw_all := lw_g (lw_at lw_m2 58 rfl) rfl
theorem q317 : (Jvm.Cond.methodLink "FourParts" (131 : Nat) ({ cls := "java/lang/reflect/Array", name := "getLong", desc := "(Ljava/lang/Object;I)J" } : Jvm.MethodName)) ∈ lw_all := lw_g (lw_at lw_m2 59 rfl) rfl
theorem q320 : (Jvm.Cond.methodLink "FourParts" (137 : Nat) ({ cls := "FourParts", name := "hold", desc := "(ILFourParts$Four;)I" } : Jvm.MethodName)) ∈ lw_all := lw_g (lw_at lw_m2 62 rfl) rfl
theorem q321 : (Jvm.Cond.privateMethod ({ cls := "FourParts", name := "hold", desc := "(ILFourParts$Four;)I" } : Jvm.MethodName)) ∈ lw_tbl := lw_at lw_m2 63 rfl
theorem q322 : (Jvm.Cond.instanceMethod ({ cls := "FourParts", name := "hold", desc := "(ILFourParts$Four;)I" } : Jvm.MethodName)) ∈ lw_all := lw_g (lw_at lw_m2 64 rfl) rfl
theorem q323 : (Jvm.Cond.code ({ cls := "FourParts", name := "hold", desc := "(ILFourParts$Four;)I" } : Jvm.MethodName) prog_1_method_15_code (3 : Nat) (Option.some Jvm.ClassFile.FieldType.int)) ∈ lw_all := lw_g (lw_at lw_m2 65 rfl) rfl
theorem q324 : (Jvm.Cond.methodLink "FourParts" (124 : Nat) ({ cls := "FourParts$Four", name := "fits", desc := "()Z" } : Jvm.MethodName)) ∈ lw_all := lw_g (lw_at lw_m2 66 rfl) rfl
theorem q333 : (Jvm.Cond.instanceMethod ({ cls := "FourParts", name := "write", desc := "(III)I" } : Jvm.MethodName)) ∈ lw_all := lw_g (lw_at lw_m2 75 rfl) rfl
theorem q334 : (Jvm.Cond.selects "FourParts" ({ cls := "FourParts", name := "write", desc := "(III)I" } : Jvm.MethodName) ({ cls := "FourParts", name := "write", desc := "(III)I" } : Jvm.MethodName)) ∈ lw_all := lw_g (lw_at lw_m2 76 rfl) rfl
theorem q335 : (Jvm.Cond.codeWith ({ cls := "FourParts", name := "write", desc := "(III)I" } : Jvm.MethodName) prog_1_method_17_code (7 : Nat) (Option.some Jvm.ClassFile.FieldType.int) [((24 : Nat), (49 : Nat), (87 : Nat), (37 : Nat)), ((50 : Nat), (86 : Nat), (87 : Nat), (37 : Nat))]) ∈ lw_all := lw_g (lw_at lw_m2 77 rfl) rfl
theorem q336 : (Jvm.Cond.methodLink "FourParts" (141 : Nat) ({ cls := "java/lang/reflect/Array", name := "getLength", desc := "(Ljava/lang/Object;)I" } : Jvm.MethodName)) ∈ lw_all := lw_g (lw_at lw_m2 78 rfl) rfl
theorem q339 : (Jvm.Cond.methodLink "FourParts" (144 : Nat) ({ cls := "FourParts$Four", name := "part", desc := "(I)J" } : Jvm.MethodName)) ∈ lw_all := lw_g (lw_at lw_m2 81 rfl) rfl
theorem q341 : (Jvm.Cond.instanceMethod ({ cls := "FourParts", name := "set", desc := "(IIIII)I" } : Jvm.MethodName)) ∈ lw_all := lw_g (lw_at lw_m2 83 rfl) rfl
theorem q342 : (Jvm.Cond.selects "FourParts" ({ cls := "FourParts", name := "set", desc := "(IIIII)I" } : Jvm.MethodName) ({ cls := "FourParts", name := "set", desc := "(IIIII)I" } : Jvm.MethodName)) ∈ lw_all := lw_g (lw_at lw_m2 84 rfl) rfl
theorem q343 : (Jvm.Cond.code ({ cls := "FourParts", name := "set", desc := "(IIIII)I" } : Jvm.MethodName) prog_1_method_18_code (7 : Nat) (Option.some Jvm.ClassFile.FieldType.int)) ∈ lw_all := lw_g (lw_at lw_m2 85 rfl) rfl
theorem q345 : (Jvm.Cond.instanceMethod ({ cls := "FourParts", name := "part", desc := "(II)I" } : Jvm.MethodName)) ∈ lw_all := lw_g (lw_at lw_m2 87 rfl) rfl
theorem q346 : (Jvm.Cond.selects "FourParts" ({ cls := "FourParts", name := "part", desc := "(II)I" } : Jvm.MethodName) ({ cls := "FourParts", name := "part", desc := "(II)I" } : Jvm.MethodName)) ∈ lw_all := lw_g (lw_at lw_m2 88 rfl) rfl
theorem q347 : (Jvm.Cond.code ({ cls := "FourParts", name := "part", desc := "(II)I" } : Jvm.MethodName) prog_1_method_20_code (4 : Nat) (Option.some Jvm.ClassFile.FieldType.int)) ∈ lw_all := lw_g (lw_at lw_m2 89 rfl) rfl
theorem q348 : (Jvm.Cond.constantLong "FourParts" (151 : Nat) (6 : Int64)) ∈ lw_all := lw_g (lw_at lw_m2 90 rfl) rfl
theorem q349 : (Jvm.Cond.constant "FourParts" (153 : Nat) (-1000000000 : Int32)) ∈ lw_all := lw_g (lw_at lw_m2 91 rfl) rfl
theorem q350 : (Jvm.Cond.methodLink "FourParts" (154 : Nat) ({ cls := "FourParts$Four", name := "norm", desc := "()J" } : Jvm.MethodName)) ∈ lw_all := lw_g (lw_at lw_m2 92 rfl) rfl
theorem q355 : (Jvm.Cond.methodLink "FourParts" (157 : Nat) ({ cls := "FourParts$Four", name := "isPrimitive", desc := "()Z" } : Jvm.MethodName)) ∈ lw_all := lw_g (lw_at lw_m2 97 rfl) rfl
theorem q372 : (Jvm.Cond.methodLink "FourParts" (160 : Nat) ({ cls := "FourParts", name := "unitOf", desc := "(LFourParts$Four;)I" } : Jvm.MethodName)) ∈ lw_all := lw_g (lw_at lw_m2 114 rfl) rfl
theorem q373 : (Jvm.Cond.privateMethod ({ cls := "FourParts", name := "unitOf", desc := "(LFourParts$Four;)I" } : Jvm.MethodName)) ∈ lw_tbl := lw_at lw_m2 115 rfl
theorem q374 : (Jvm.Cond.instanceMethod ({ cls := "FourParts", name := "unitOf", desc := "(LFourParts$Four;)I" } : Jvm.MethodName)) ∈ lw_all := lw_g (lw_at lw_m2 116 rfl) rfl
theorem q375 : (Jvm.Cond.code ({ cls := "FourParts", name := "unitOf", desc := "(LFourParts$Four;)I" } : Jvm.MethodName) prog_1_method_19_code (3 : Nat) (Option.some Jvm.ClassFile.FieldType.int)) ∈ lw_all := lw_g (lw_at lw_m2 117 rfl) rfl
theorem q376 : (Jvm.Cond.methodLink "FourParts" (148 : Nat) ({ cls := "FourParts$Four", name := "isOne", desc := "(LFourParts$Four;)Z" } : Jvm.MethodName)) ∈ lw_all := lw_g (lw_at lw_m2 118 rfl) rfl
theorem q381 : (Jvm.Cond.instanceMethod ({ cls := "FourParts", name := "work", desc := "(IIII)I" } : Jvm.MethodName)) ∈ lw_all := lw_g (lw_at lw_m2 123 rfl) rfl
theorem q382 : (Jvm.Cond.selects "FourParts" ({ cls := "FourParts", name := "work", desc := "(IIII)I" } : Jvm.MethodName) ({ cls := "FourParts", name := "work", desc := "(IIII)I" } : Jvm.MethodName)) ∈ lw_all := lw_g (lw_at lw_m2 124 rfl) rfl
theorem q383 : (Jvm.Cond.code ({ cls := "FourParts", name := "work", desc := "(IIII)I" } : Jvm.MethodName) prog_1_method_21_code (6 : Nat) (Option.some Jvm.ClassFile.FieldType.int)) ∈ lw_all := lw_g (lw_at lw_m2 125 rfl) rfl
theorem q384 : (Jvm.Cond.constantLong "FourParts" (164 : Nat) (3 : Int64)) ∈ lw_all := lw_g (lw_at lw_m2 126 rfl) rfl
theorem q385 : (Jvm.Cond.methodLink "FourParts" (166 : Nat) ({ cls := "FourParts$Four", name := "plus", desc := "(LFourParts$Four;J)LFourParts$Four;" } : Jvm.MethodName)) ∈ lw_all := lw_g (lw_at lw_m2 127 rfl) rfl
theorem q391 : (Jvm.Cond.methodLink "FourParts" (170 : Nat) ({ cls := "FourParts$Four", name := "times", desc := "(LFourParts$Four;)LFourParts$Four;" } : Jvm.MethodName)) ∈ lw_all := lw_g (lw_at lw_m2 133 rfl) rfl
theorem q395 : (Jvm.Cond.methodLink "FourParts" (174 : Nat) ({ cls := "FourParts$Four", name := "mirror", desc := "()LFourParts$Four;" } : Jvm.MethodName)) ∈ lw_all := lw_g (lw_at lw_m2 137 rfl) rfl
theorem q400 : (Jvm.Cond.instanceMethod ({ cls := "FourParts", name := "unit", desc := "(IIII)I" } : Jvm.MethodName)) ∈ lw_all := lw_g (lw_at lw_m2 142 rfl) rfl
theorem q401 : (Jvm.Cond.selects "FourParts" ({ cls := "FourParts", name := "unit", desc := "(IIII)I" } : Jvm.MethodName) ({ cls := "FourParts", name := "unit", desc := "(IIII)I" } : Jvm.MethodName)) ∈ lw_all := lw_g (lw_at lw_m2 143 rfl) rfl
theorem q402 : (Jvm.Cond.code ({ cls := "FourParts", name := "unit", desc := "(IIII)I" } : Jvm.MethodName) prog_1_method_23_code (5 : Nat) (Option.some Jvm.ClassFile.FieldType.int)) ∈ lw_all := lw_g (lw_at lw_m2 144 rfl) rfl
theorem q403 : (Jvm.Cond.constantLong "FourParts" (178 : Nat) (23 : Int64)) ∈ lw_all := lw_g (lw_at lw_m2 145 rfl) rfl
theorem q404 : (Jvm.Cond.methodLink "FourParts" (180 : Nat) ({ cls := "FourParts", name := "isSide", desc := "(I)Z" } : Jvm.MethodName)) ∈ lw_all := lw_g (lw_at lw_m2 146 rfl) rfl
theorem q405 : (Jvm.Cond.static ({ cls := "FourParts", name := "isSide", desc := "(I)Z" } : Jvm.MethodName)) ∈ lw_all := lw_g (lw_at lw_m2 147 rfl) rfl
theorem q406 : (Jvm.Cond.code ({ cls := "FourParts", name := "isSide", desc := "(I)Z" } : Jvm.MethodName) prog_1_method_22_code (1 : Nat) (Option.some Jvm.ClassFile.FieldType.boolean)) ∈ lw_all := lw_g (lw_at lw_m2 148 rfl) rfl
theorem q407 : (Jvm.Cond.methodLink "FourParts" (183 : Nat) ({ cls := "FourParts$Side", name := "product", desc := "(LFourParts$Four;LFourParts$Four;)LFourParts$Four;" } : Jvm.MethodName)) ∈ lw_all := lw_g (lw_at lw_m2 149 rfl) rfl
theorem q419 : (Jvm.Cond.instanceMethod ({ cls := "FourParts", name := "divide", desc := "(IIIII)I" } : Jvm.MethodName)) ∈ lw_all := lw_g (lw_at lw_m2 161 rfl) rfl
theorem q420 : (Jvm.Cond.selects "FourParts" ({ cls := "FourParts", name := "divide", desc := "(IIIII)I" } : Jvm.MethodName) ({ cls := "FourParts", name := "divide", desc := "(IIIII)I" } : Jvm.MethodName)) ∈ lw_all := lw_g (lw_at lw_m2 162 rfl) rfl
theorem q421 : (Jvm.Cond.code ({ cls := "FourParts", name := "divide", desc := "(IIIII)I" } : Jvm.MethodName) prog_1_method_24_code (11 : Nat) (Option.some Jvm.ClassFile.FieldType.int)) ∈ lw_all := lw_g (lw_at lw_m2 163 rfl) rfl
theorem q422 : (Jvm.Cond.methodLink "FourParts" (190 : Nat) ({ cls := "FourParts$Side", name := "quotient", desc := "(LFourParts$Four;LFourParts$Four;)LFourParts$Four;" } : Jvm.MethodName)) ∈ lw_all := lw_g (lw_at lw_m2 164 rfl) rfl
theorem q447 : (Jvm.Cond.methodLink "FourParts" (193 : Nat) ({ cls := "FourParts$Side", name := "rest", desc := "(LFourParts$Four;LFourParts$Four;LFourParts$Four;)LFourParts$Four;" } : Jvm.MethodName)) ∈ lw_all := lw_g (lw_at lw_m2 189 rfl) rfl
theorem q456 : (Jvm.Cond.instanceMethod ({ cls := "FourParts", name := "divisor", desc := "(IIII)I" } : Jvm.MethodName)) ∈ lw_all := lw_g (lw_at lw_m2 198 rfl) rfl
theorem q457 : (Jvm.Cond.selects "FourParts" ({ cls := "FourParts", name := "divisor", desc := "(IIII)I" } : Jvm.MethodName) ({ cls := "FourParts", name := "divisor", desc := "(IIII)I" } : Jvm.MethodName)) ∈ lw_all := lw_g (lw_at lw_m2 199 rfl) rfl
theorem q458 : (Jvm.Cond.code ({ cls := "FourParts", name := "divisor", desc := "(IIII)I" } : Jvm.MethodName) prog_1_method_25_code (6 : Nat) (Option.some Jvm.ClassFile.FieldType.int)) ∈ lw_all := lw_g (lw_at lw_m2 200 rfl) rfl
theorem q459 : (Jvm.Cond.methodLink "FourParts" (197 : Nat) ({ cls := "FourParts$Side", name := "divisor", desc := "(LFourParts$Four;LFourParts$Four;[LFourParts$Four;)LFourParts$Four;" } : Jvm.MethodName)) ∈ lw_all := lw_g (lw_at lw_m2 201 rfl) rfl
theorem q478 : (Jvm.Cond.instanceMethod ({ cls := "FourParts", name := "like", desc := "(III)I" } : Jvm.MethodName)) ∈ lw_all := lw_g (lw_at lw_m2 220 rfl) rfl
theorem q479 : (Jvm.Cond.selects "FourParts" ({ cls := "FourParts", name := "like", desc := "(III)I" } : Jvm.MethodName) ({ cls := "FourParts", name := "like", desc := "(III)I" } : Jvm.MethodName)) ∈ lw_all := lw_g (lw_at lw_m2 221 rfl) rfl
theorem q480 : (Jvm.Cond.code ({ cls := "FourParts", name := "like", desc := "(III)I" } : Jvm.MethodName) prog_1_method_26_code (5 : Nat) (Option.some Jvm.ClassFile.FieldType.int)) ∈ lw_all := lw_g (lw_at lw_m2 222 rfl) rfl
theorem q482 : (Jvm.Cond.instanceMethod ({ cls := "FourParts", name := "way", desc := "(IIII)I" } : Jvm.MethodName)) ∈ lw_all := lw_g (lw_at lw_m2 224 rfl) rfl
theorem q483 : (Jvm.Cond.selects "FourParts" ({ cls := "FourParts", name := "way", desc := "(IIII)I" } : Jvm.MethodName) ({ cls := "FourParts", name := "way", desc := "(IIII)I" } : Jvm.MethodName)) ∈ lw_all := lw_g (lw_at lw_m2 225 rfl) rfl
theorem q484 : (Jvm.Cond.codeWith ({ cls := "FourParts", name := "way", desc := "(IIII)I" } : Jvm.MethodName) prog_1_method_29_code (8 : Nat) (Option.some Jvm.ClassFile.FieldType.int) [((28 : Nat), (60 : Nat), (98 : Nat), (37 : Nat)), ((61 : Nat), (95 : Nat), (98 : Nat), (37 : Nat)), ((28 : Nat), (60 : Nat), (103 : Nat), (25 : Nat)), ((61 : Nat), (95 : Nat), (103 : Nat), (25 : Nat))]) ∈ lw_all := lw_g (lw_at lw_m2 226 rfl) rfl
theorem q485 : (Jvm.Cond.methodLink "FourParts" (205 : Nat) ({ cls := "FourParts", name := "refusal", desc := "([JJ)I" } : Jvm.MethodName)) ∈ lw_all := lw_g (lw_at lw_m2 227 rfl) rfl
theorem q486 : (Jvm.Cond.static ({ cls := "FourParts", name := "refusal", desc := "([JJ)I" } : Jvm.MethodName)) ∈ lw_all := lw_g (lw_at lw_m2 228 rfl) rfl
theorem q487 : (Jvm.Cond.code ({ cls := "FourParts", name := "refusal", desc := "([JJ)I" } : Jvm.MethodName) prog_1_method_28_code (10 : Nat) (Option.some Jvm.ClassFile.FieldType.int)) ∈ lw_all := lw_g (lw_at lw_m2 229 rfl) rfl
theorem q488 : (Jvm.Cond.methodLink "FourParts" (201 : Nat) ({ cls := "FourParts", name := "isPrime", desc := "(J)Z" } : Jvm.MethodName)) ∈ lw_all := lw_g (lw_at lw_m2 230 rfl) rfl
theorem q489 : (Jvm.Cond.static ({ cls := "FourParts", name := "isPrime", desc := "(J)Z" } : Jvm.MethodName)) ∈ lw_all := lw_g (lw_at lw_m2 231 rfl) rfl
theorem q490 : (Jvm.Cond.code ({ cls := "FourParts", name := "isPrime", desc := "(J)Z" } : Jvm.MethodName) prog_1_method_27_code (5 : Nat) (Option.some Jvm.ClassFile.FieldType.boolean)) ∈ lw_all := lw_g (lw_at lw_m2 232 rfl) rfl
theorem q492 : (Jvm.Cond.instanceMethod ({ cls := "FourParts", name := "factor", desc := "(II)I" } : Jvm.MethodName)) ∈ lw_all := lw_g (lw_at lw_m2 234 rfl) rfl
theorem q493 : (Jvm.Cond.selects "FourParts" ({ cls := "FourParts", name := "factor", desc := "(II)I" } : Jvm.MethodName) ({ cls := "FourParts", name := "factor", desc := "(II)I" } : Jvm.MethodName)) ∈ lw_all := lw_g (lw_at lw_m2 235 rfl) rfl
theorem q494 : (Jvm.Cond.code ({ cls := "FourParts", name := "factor", desc := "(II)I" } : Jvm.MethodName) prog_1_method_30_code (3 : Nat) (Option.some Jvm.ClassFile.FieldType.int)) ∈ lw_all := lw_g (lw_at lw_m2 236 rfl) rfl
theorem q496 : (Jvm.Cond.instanceMethod ({ cls := "FourParts", name := "many", desc := "(II)I" } : Jvm.MethodName)) ∈ lw_all := lw_g (lw_at lw_m2 238 rfl) rfl
theorem q497 : (Jvm.Cond.selects "FourParts" ({ cls := "FourParts", name := "many", desc := "(II)I" } : Jvm.MethodName) ({ cls := "FourParts", name := "many", desc := "(II)I" } : Jvm.MethodName)) ∈ lw_all := lw_g (lw_at lw_m2 239 rfl) rfl
theorem q498 : (Jvm.Cond.code ({ cls := "FourParts", name := "many", desc := "(II)I" } : Jvm.MethodName) prog_1_method_32_code (4 : Nat) (Option.some Jvm.ClassFile.FieldType.int)) ∈ lw_all := lw_g (lw_at lw_m3 0 rfl) rfl
theorem q499 : (Jvm.Cond.constantLong "FourParts" (209 : Nat) (200 : Int64)) ∈ lw_all := lw_g (lw_at lw_m3 1 rfl) rfl
theorem q500 : (Jvm.Cond.methodLink "FourParts" (211 : Nat) ({ cls := "FourParts", name := "divisors", desc := "(II)I" } : Jvm.MethodName)) ∈ lw_all := lw_g (lw_at lw_m3 2 rfl) rfl
theorem q501 : (Jvm.Cond.static ({ cls := "FourParts", name := "divisors", desc := "(II)I" } : Jvm.MethodName)) ∈ lw_all := lw_g (lw_at lw_m3 3 rfl) rfl
theorem q502 : (Jvm.Cond.code ({ cls := "FourParts", name := "divisors", desc := "(II)I" } : Jvm.MethodName) prog_1_method_31_code (4 : Nat) (Option.some Jvm.ClassFile.FieldType.int)) ∈ lw_all := lw_g (lw_at lw_m3 4 rfl) rfl
theorem q503 : (Jvm.Cond.classLink "FourParts" (215 : Nat) "FourParts$Listing") ∈ lw_all := lw_g (lw_at lw_m3 5 rfl) rfl
theorem q505 : (Jvm.Cond.methodLink "FourParts" (217 : Nat) ({ cls := "FourParts$Listing", name := "<init>", desc := "(II)V" } : Jvm.MethodName)) ∈ lw_all := lw_g (lw_at lw_m3 7 rfl) rfl
theorem q513 : (Jvm.Cond.fieldLink "FourParts" (224 : Nat) "FourParts$Listing" "primitive" "I") ∈ lw_all := lw_g (lw_at lw_m3 15 rfl) rfl
theorem q516 : (Jvm.Cond.fieldLink "FourParts" (228 : Nat) "FourParts$Listing" "found" "LFourParts$Four;") ∈ lw_all := lw_g (lw_at lw_m3 18 rfl) rfl
theorem q530 : (Jvm.Cond.methodLink "FourParts" (220 : Nat) ({ cls := "FourParts$Listing", name := "go", desc := "(Z)V" } : Jvm.MethodName)) ∈ lw_all := lw_g (lw_at lw_m3 32 rfl) rfl
theorem q546 : (Jvm.Cond.instanceMethod ({ cls := "FourParts", name := "listed", desc := "(III)I" } : Jvm.MethodName)) ∈ lw_all := lw_g (lw_at lw_m3 48 rfl) rfl
theorem q547 : (Jvm.Cond.selects "FourParts" ({ cls := "FourParts", name := "listed", desc := "(III)I" } : Jvm.MethodName) ({ cls := "FourParts", name := "listed", desc := "(III)I" } : Jvm.MethodName)) ∈ lw_all := lw_g (lw_at lw_m3 49 rfl) rfl
theorem q548 : (Jvm.Cond.code ({ cls := "FourParts", name := "listed", desc := "(III)I" } : Jvm.MethodName) prog_1_method_33_code (5 : Nat) (Option.some Jvm.ClassFile.FieldType.int)) ∈ lw_all := lw_g (lw_at lw_m3 50 rfl) rfl
theorem q550 : (Jvm.Cond.instanceMethod ({ cls := "FourParts", name := "turn", desc := "(III)I" } : Jvm.MethodName)) ∈ lw_all := lw_g (lw_at lw_m3 52 rfl) rfl
theorem q551 : (Jvm.Cond.selects "FourParts" ({ cls := "FourParts", name := "turn", desc := "(III)I" } : Jvm.MethodName) ({ cls := "FourParts", name := "turn", desc := "(III)I" } : Jvm.MethodName)) ∈ lw_all := lw_g (lw_at lw_m3 53 rfl) rfl
theorem q552 : (Jvm.Cond.code ({ cls := "FourParts", name := "turn", desc := "(III)I" } : Jvm.MethodName) prog_1_method_35_code (4 : Nat) (Option.some Jvm.ClassFile.FieldType.int)) ∈ lw_all := lw_g (lw_at lw_m3 54 rfl) rfl
theorem q553 : (Jvm.Cond.constant "FourParts" (231 : Nat) (-2000000000 : Int32)) ∈ lw_all := lw_g (lw_at lw_m3 55 rfl) rfl
theorem q554 : (Jvm.Cond.constant "FourParts" (232 : Nat) (-2000000001 : Int32)) ∈ lw_all := lw_g (lw_at lw_m3 56 rfl) rfl
theorem q555 : (Jvm.Cond.methodLink "FourParts" (233 : Nat) ({ cls := "FourParts", name := "entry", desc := "(LFourParts$Four;II)J" } : Jvm.MethodName)) ∈ lw_all := lw_g (lw_at lw_m3 57 rfl) rfl
theorem q556 : (Jvm.Cond.static ({ cls := "FourParts", name := "entry", desc := "(LFourParts$Four;II)J" } : Jvm.MethodName)) ∈ lw_all := lw_g (lw_at lw_m3 58 rfl) rfl
theorem q557 : (Jvm.Cond.code ({ cls := "FourParts", name := "entry", desc := "(LFourParts$Four;II)J" } : Jvm.MethodName) prog_1_method_34_code (6 : Nat) (Option.some Jvm.ClassFile.FieldType.long)) ∈ lw_all := lw_g (lw_at lw_m3 59 rfl) rfl
theorem q559 : (Jvm.Cond.instanceMethod ({ cls := "FourParts", name := "turned", desc := "(IIIII)J" } : Jvm.MethodName)) ∈ lw_all := lw_g (lw_at lw_m3 61 rfl) rfl
theorem q560 : (Jvm.Cond.selects "FourParts" ({ cls := "FourParts", name := "turned", desc := "(IIIII)J" } : Jvm.MethodName) ({ cls := "FourParts", name := "turned", desc := "(IIIII)J" } : Jvm.MethodName)) ∈ lw_all := lw_g (lw_at lw_m3 62 rfl) rfl
theorem q561 : (Jvm.Cond.code ({ cls := "FourParts", name := "turned", desc := "(IIIII)J" } : Jvm.MethodName) prog_1_method_36_code (8 : Nat) (Option.some Jvm.ClassFile.FieldType.long)) ∈ lw_all := lw_g (lw_at lw_m3 63 rfl) rfl
theorem q562 : (Jvm.Cond.constantLong "FourParts" (237 : Nat) (-100 : Int64)) ∈ lw_all := lw_g (lw_at lw_m3 64 rfl) rfl
theorem q563 : (Jvm.Cond.constantLong "FourParts" (239 : Nat) (100 : Int64)) ∈ lw_all := lw_g (lw_at lw_m3 65 rfl) rfl
theorem q816 : (Jvm.Cond.castable "FourParts" "java/lang/Object") ∈ lw_tbl := lw_at lw_m4 78 rfl
theorem in_X0 : ∀ w ∈ wsX00, w ∈ lw_all := lw_in wsX00 [298, 300, 302, 304, 306] (by decide +kernel) (by decide +kernel)
