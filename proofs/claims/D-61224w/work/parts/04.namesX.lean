/-! TemplateEngineLaw -/
set_option maxRecDepth 100000
def RX0 : String := "TemplateEngineLaw"
abbrev cX0_type : ByteArray := method_3_code
def yX0_type : MethodName := ⟨RX0, "type", "(LTemplateEngine;I[J)I"⟩
def dkwX0_type_0 : List UInt8 := [44, 3, 42, 27, 182, 0, 7, 133, 80, 167, 0, 9, 78, 4, 172, 78, 5, 172, 3, 172]
abbrev dktX0_type_0 : List UInt8 := dkwX0_type_0 ++ []
theorem dksX0_type_0 : cX0_type.data.toList.drop 0 = dktX0_type_0 := by decide +kernel
theorem dX0_type_0 : decode cX0_type 0 = .ok (.aload_n 2, 1) := dk_44 (dk_at dksX0_type_0 0 rfl rfl)
theorem dX0_type_1 : decode cX0_type 1 = .ok (.iconst 0, 1) := dk_3 (dk_at dksX0_type_0 1 rfl rfl)
theorem dX0_type_2 : decode cX0_type 2 = .ok (.aload_n 0, 1) := dk_42 (dk_at dksX0_type_0 2 rfl rfl)
theorem dX0_type_3 : decode cX0_type 3 = .ok (.iload_n 1, 1) := dk_27 (dk_at dksX0_type_0 3 rfl rfl)
theorem dX0_type_4 : decode cX0_type 4 = .ok (.invokevirtual 7, 3) := dk_182 0 7 (dk_at dksX0_type_0 4 rfl rfl)
theorem dX0_type_7 : decode cX0_type 7 = .ok (.i2l, 1) := dk_133 (dk_at dksX0_type_0 7 rfl rfl)
theorem dX0_type_8 : decode cX0_type 8 = .ok (.lastore, 1) := dk_80 (dk_at dksX0_type_0 8 rfl rfl)
theorem dX0_type_9 : decode cX0_type 9 = .ok (.goto 9, 3) := dk_167 0 9 (dk_at dksX0_type_0 9 rfl rfl)
theorem dX0_type_12 : decode cX0_type 12 = .ok (.astore_n 3, 1) := dk_78 (dk_at dksX0_type_0 12 rfl rfl)
theorem dX0_type_13 : decode cX0_type 13 = .ok (.iconst 1, 1) := dk_4 (dk_at dksX0_type_0 13 rfl rfl)
theorem dX0_type_14 : decode cX0_type 14 = .ok (.ireturn, 1) := dk_172 (dk_at dksX0_type_0 14 rfl rfl)
theorem dX0_type_15 : decode cX0_type 15 = .ok (.astore_n 3, 1) := dk_78 (dk_at dksX0_type_0 15 rfl rfl)
theorem dX0_type_16 : decode cX0_type 16 = .ok (.iconst 2, 1) := dk_5 (dk_at dksX0_type_0 16 rfl rfl)
theorem dX0_type_17 : decode cX0_type 17 = .ok (.ireturn, 1) := dk_172 (dk_at dksX0_type_0 17 rfl rfl)
theorem dX0_type_18 : decode cX0_type 18 = .ok (.iconst 0, 1) := dk_3 (dk_at dksX0_type_0 18 rfl rfl)
theorem dX0_type_19 : decode cX0_type 19 = .ok (.ireturn, 1) := dk_172 (dk_at dksX0_type_0 19 rfl rfl)
abbrev cX0_number : ByteArray := method_4_code
def yX0_number : MethodName := ⟨RX0, "number", "(LTemplateEngine;I[J)I"⟩
def dkwX0_number_0 : List UInt8 := [44, 3, 42, 27, 182, 0, 17, 133, 80, 167, 0, 6, 78, 4, 172, 3, 172]
abbrev dktX0_number_0 : List UInt8 := dkwX0_number_0 ++ []
theorem dksX0_number_0 : cX0_number.data.toList.drop 0 = dktX0_number_0 := by decide +kernel
theorem dX0_number_0 : decode cX0_number 0 = .ok (.aload_n 2, 1) := dk_44 (dk_at dksX0_number_0 0 rfl rfl)
theorem dX0_number_1 : decode cX0_number 1 = .ok (.iconst 0, 1) := dk_3 (dk_at dksX0_number_0 1 rfl rfl)
theorem dX0_number_2 : decode cX0_number 2 = .ok (.aload_n 0, 1) := dk_42 (dk_at dksX0_number_0 2 rfl rfl)
theorem dX0_number_3 : decode cX0_number 3 = .ok (.iload_n 1, 1) := dk_27 (dk_at dksX0_number_0 3 rfl rfl)
theorem dX0_number_4 : decode cX0_number 4 = .ok (.invokevirtual 17, 3) := dk_182 0 17 (dk_at dksX0_number_0 4 rfl rfl)
theorem dX0_number_7 : decode cX0_number 7 = .ok (.i2l, 1) := dk_133 (dk_at dksX0_number_0 7 rfl rfl)
theorem dX0_number_8 : decode cX0_number 8 = .ok (.lastore, 1) := dk_80 (dk_at dksX0_number_0 8 rfl rfl)
theorem dX0_number_9 : decode cX0_number 9 = .ok (.goto 6, 3) := dk_167 0 6 (dk_at dksX0_number_0 9 rfl rfl)
theorem dX0_number_12 : decode cX0_number 12 = .ok (.astore_n 3, 1) := dk_78 (dk_at dksX0_number_0 12 rfl rfl)
theorem dX0_number_13 : decode cX0_number 13 = .ok (.iconst 1, 1) := dk_4 (dk_at dksX0_number_0 13 rfl rfl)
theorem dX0_number_14 : decode cX0_number 14 = .ok (.ireturn, 1) := dk_172 (dk_at dksX0_number_0 14 rfl rfl)
theorem dX0_number_15 : decode cX0_number 15 = .ok (.iconst 0, 1) := dk_3 (dk_at dksX0_number_0 15 rfl rfl)
theorem dX0_number_16 : decode cX0_number 16 = .ok (.ireturn, 1) := dk_172 (dk_at dksX0_number_0 16 rfl rfl)
abbrev cX0_text : ByteArray := method_5_code
def yX0_text : MethodName := ⟨RX0, "text", "(LTemplateEngine;[J)I"⟩
def dkwX0_text_0 : List UInt8 := [43, 3, 42, 182, 0, 20, 133, 80, 167, 0, 6, 77, 4, 172, 3, 172]
abbrev dktX0_text_0 : List UInt8 := dkwX0_text_0 ++ []
theorem dksX0_text_0 : cX0_text.data.toList.drop 0 = dktX0_text_0 := by decide +kernel
theorem dX0_text_0 : decode cX0_text 0 = .ok (.aload_n 1, 1) := dk_43 (dk_at dksX0_text_0 0 rfl rfl)
theorem dX0_text_1 : decode cX0_text 1 = .ok (.iconst 0, 1) := dk_3 (dk_at dksX0_text_0 1 rfl rfl)
theorem dX0_text_2 : decode cX0_text 2 = .ok (.aload_n 0, 1) := dk_42 (dk_at dksX0_text_0 2 rfl rfl)
theorem dX0_text_3 : decode cX0_text 3 = .ok (.invokevirtual 20, 3) := dk_182 0 20 (dk_at dksX0_text_0 3 rfl rfl)
theorem dX0_text_6 : decode cX0_text 6 = .ok (.i2l, 1) := dk_133 (dk_at dksX0_text_0 6 rfl rfl)
theorem dX0_text_7 : decode cX0_text 7 = .ok (.lastore, 1) := dk_80 (dk_at dksX0_text_0 7 rfl rfl)
theorem dX0_text_8 : decode cX0_text 8 = .ok (.goto 6, 3) := dk_167 0 6 (dk_at dksX0_text_0 8 rfl rfl)
theorem dX0_text_11 : decode cX0_text 11 = .ok (.astore_n 2, 1) := dk_77 (dk_at dksX0_text_0 11 rfl rfl)
theorem dX0_text_12 : decode cX0_text 12 = .ok (.iconst 1, 1) := dk_4 (dk_at dksX0_text_0 12 rfl rfl)
theorem dX0_text_13 : decode cX0_text 13 = .ok (.ireturn, 1) := dk_172 (dk_at dksX0_text_0 13 rfl rfl)
theorem dX0_text_14 : decode cX0_text 14 = .ok (.iconst 0, 1) := dk_3 (dk_at dksX0_text_0 14 rfl rfl)
theorem dX0_text_15 : decode cX0_text 15 = .ok (.ireturn, 1) := dk_172 (dk_at dksX0_text_0 15 rfl rfl)
abbrev cX0_list : ByteArray := method_6_code
def yX0_list : MethodName := ⟨RX0, "list", "(LTemplateEngine;[J)I"⟩
def dkwX0_list_0 : List UInt8 := [43, 3, 42, 182, 0, 24, 133, 80, 167, 0, 6, 77, 4, 172, 3, 172]
abbrev dktX0_list_0 : List UInt8 := dkwX0_list_0 ++ []
theorem dksX0_list_0 : cX0_list.data.toList.drop 0 = dktX0_list_0 := by decide +kernel
theorem dX0_list_0 : decode cX0_list 0 = .ok (.aload_n 1, 1) := dk_43 (dk_at dksX0_list_0 0 rfl rfl)
theorem dX0_list_1 : decode cX0_list 1 = .ok (.iconst 0, 1) := dk_3 (dk_at dksX0_list_0 1 rfl rfl)
theorem dX0_list_2 : decode cX0_list 2 = .ok (.aload_n 0, 1) := dk_42 (dk_at dksX0_list_0 2 rfl rfl)
theorem dX0_list_3 : decode cX0_list 3 = .ok (.invokevirtual 24, 3) := dk_182 0 24 (dk_at dksX0_list_0 3 rfl rfl)
theorem dX0_list_6 : decode cX0_list 6 = .ok (.i2l, 1) := dk_133 (dk_at dksX0_list_0 6 rfl rfl)
theorem dX0_list_7 : decode cX0_list 7 = .ok (.lastore, 1) := dk_80 (dk_at dksX0_list_0 7 rfl rfl)
theorem dX0_list_8 : decode cX0_list 8 = .ok (.goto 6, 3) := dk_167 0 6 (dk_at dksX0_list_0 8 rfl rfl)
theorem dX0_list_11 : decode cX0_list 11 = .ok (.astore_n 2, 1) := dk_77 (dk_at dksX0_list_0 11 rfl rfl)
theorem dX0_list_12 : decode cX0_list 12 = .ok (.iconst 1, 1) := dk_4 (dk_at dksX0_list_0 12 rfl rfl)
theorem dX0_list_13 : decode cX0_list 13 = .ok (.ireturn, 1) := dk_172 (dk_at dksX0_list_0 13 rfl rfl)
theorem dX0_list_14 : decode cX0_list 14 = .ok (.iconst 0, 1) := dk_3 (dk_at dksX0_list_0 14 rfl rfl)
theorem dX0_list_15 : decode cX0_list 15 = .ok (.ireturn, 1) := dk_172 (dk_at dksX0_list_0 15 rfl rfl)
abbrev cX0_map : ByteArray := method_7_code
def yX0_map : MethodName := ⟨RX0, "map", "(LTemplateEngine;[J)I"⟩
def dkwX0_map_0 : List UInt8 := [43, 3, 42, 182, 0, 27, 133, 80, 167, 0, 6, 77, 4, 172, 3, 172]
abbrev dktX0_map_0 : List UInt8 := dkwX0_map_0 ++ []
theorem dksX0_map_0 : cX0_map.data.toList.drop 0 = dktX0_map_0 := by decide +kernel
theorem dX0_map_0 : decode cX0_map 0 = .ok (.aload_n 1, 1) := dk_43 (dk_at dksX0_map_0 0 rfl rfl)
theorem dX0_map_1 : decode cX0_map 1 = .ok (.iconst 0, 1) := dk_3 (dk_at dksX0_map_0 1 rfl rfl)
theorem dX0_map_2 : decode cX0_map 2 = .ok (.aload_n 0, 1) := dk_42 (dk_at dksX0_map_0 2 rfl rfl)
theorem dX0_map_3 : decode cX0_map 3 = .ok (.invokevirtual 27, 3) := dk_182 0 27 (dk_at dksX0_map_0 3 rfl rfl)
theorem dX0_map_6 : decode cX0_map 6 = .ok (.i2l, 1) := dk_133 (dk_at dksX0_map_0 6 rfl rfl)
theorem dX0_map_7 : decode cX0_map 7 = .ok (.lastore, 1) := dk_80 (dk_at dksX0_map_0 7 rfl rfl)
theorem dX0_map_8 : decode cX0_map 8 = .ok (.goto 6, 3) := dk_167 0 6 (dk_at dksX0_map_0 8 rfl rfl)
theorem dX0_map_11 : decode cX0_map 11 = .ok (.astore_n 2, 1) := dk_77 (dk_at dksX0_map_0 11 rfl rfl)
theorem dX0_map_12 : decode cX0_map 12 = .ok (.iconst 1, 1) := dk_4 (dk_at dksX0_map_0 12 rfl rfl)
theorem dX0_map_13 : decode cX0_map 13 = .ok (.ireturn, 1) := dk_172 (dk_at dksX0_map_0 13 rfl rfl)
theorem dX0_map_14 : decode cX0_map 14 = .ok (.iconst 0, 1) := dk_3 (dk_at dksX0_map_0 14 rfl rfl)
theorem dX0_map_15 : decode cX0_map 15 = .ok (.ireturn, 1) := dk_172 (dk_at dksX0_map_0 15 rfl rfl)
abbrev cX0_add : ByteArray := method_8_code
def yX0_add : MethodName := ⟨RX0, "add", "(LTemplateEngine;II[J)I"⟩
def dkwX0_add_1 : List UInt8 := [172, 3, 172]
abbrev dktX0_add_1 : List UInt8 := dkwX0_add_1 ++ []
def dkwX0_add_0 : List UInt8 := [45, 3, 42, 27, 28, 182, 0, 30, 133, 80, 167, 0, 15, 58, 4, 4, 172, 58, 4, 5, 172, 58, 4, 6]
abbrev dktX0_add_0 : List UInt8 := dkwX0_add_0 ++ dktX0_add_1
theorem dksX0_add_0 : cX0_add.data.toList.drop 0 = dktX0_add_0 := by decide +kernel
theorem dksX0_add_1 : cX0_add.data.toList.drop 24 = dktX0_add_1 := dk_seg dksX0_add_0 24 rfl rfl
theorem dX0_add_0 : decode cX0_add 0 = .ok (.aload_n 3, 1) := dk_45 (dk_at dksX0_add_0 0 rfl rfl)
theorem dX0_add_1 : decode cX0_add 1 = .ok (.iconst 0, 1) := dk_3 (dk_at dksX0_add_0 1 rfl rfl)
theorem dX0_add_2 : decode cX0_add 2 = .ok (.aload_n 0, 1) := dk_42 (dk_at dksX0_add_0 2 rfl rfl)
theorem dX0_add_3 : decode cX0_add 3 = .ok (.iload_n 1, 1) := dk_27 (dk_at dksX0_add_0 3 rfl rfl)
theorem dX0_add_4 : decode cX0_add 4 = .ok (.iload_n 2, 1) := dk_28 (dk_at dksX0_add_0 4 rfl rfl)
theorem dX0_add_5 : decode cX0_add 5 = .ok (.invokevirtual 30, 3) := dk_182 0 30 (dk_at dksX0_add_0 5 rfl rfl)
theorem dX0_add_8 : decode cX0_add 8 = .ok (.i2l, 1) := dk_133 (dk_at dksX0_add_0 8 rfl rfl)
theorem dX0_add_9 : decode cX0_add 9 = .ok (.lastore, 1) := dk_80 (dk_at dksX0_add_0 9 rfl rfl)
theorem dX0_add_10 : decode cX0_add 10 = .ok (.goto 15, 3) := dk_167 0 15 (dk_at dksX0_add_0 10 rfl rfl)
theorem dX0_add_13 : decode cX0_add 13 = .ok (.astore 4, 2) := dk_58 4 (dk_at dksX0_add_0 13 rfl rfl)
theorem dX0_add_15 : decode cX0_add 15 = .ok (.iconst 1, 1) := dk_4 (dk_at dksX0_add_0 15 rfl rfl)
theorem dX0_add_16 : decode cX0_add 16 = .ok (.ireturn, 1) := dk_172 (dk_at dksX0_add_0 16 rfl rfl)
theorem dX0_add_17 : decode cX0_add 17 = .ok (.astore 4, 2) := dk_58 4 (dk_at dksX0_add_0 17 rfl rfl)
theorem dX0_add_19 : decode cX0_add 19 = .ok (.iconst 2, 1) := dk_5 (dk_at dksX0_add_0 19 rfl rfl)
theorem dX0_add_20 : decode cX0_add 20 = .ok (.ireturn, 1) := dk_172 (dk_at dksX0_add_0 20 rfl rfl)
theorem dX0_add_21 : decode cX0_add 21 = .ok (.astore 4, 2) := dk_58 4 (dk_at dksX0_add_0 21 rfl rfl)
theorem dX0_add_23 : decode cX0_add 23 = .ok (.iconst 3, 1) := dk_6 (dk_at dksX0_add_0 23 rfl rfl)
theorem dX0_add_24 : decode cX0_add 24 = .ok (.ireturn, 1) := dk_172 (dk_at dksX0_add_1 0 rfl rfl)
theorem dX0_add_25 : decode cX0_add 25 = .ok (.iconst 0, 1) := dk_3 (dk_at dksX0_add_1 1 rfl rfl)
theorem dX0_add_26 : decode cX0_add 26 = .ok (.ireturn, 1) := dk_172 (dk_at dksX0_add_1 2 rfl rfl)
abbrev cX0_put : ByteArray := method_9_code
def yX0_put : MethodName := ⟨RX0, "put", "(LTemplateEngine;II[J)I"⟩
def dkwX0_put_1 : List UInt8 := [172, 3, 172]
abbrev dktX0_put_1 : List UInt8 := dkwX0_put_1 ++ []
def dkwX0_put_0 : List UInt8 := [45, 3, 42, 27, 28, 182, 0, 36, 133, 80, 167, 0, 15, 58, 4, 4, 172, 58, 4, 5, 172, 58, 4, 6]
abbrev dktX0_put_0 : List UInt8 := dkwX0_put_0 ++ dktX0_put_1
theorem dksX0_put_0 : cX0_put.data.toList.drop 0 = dktX0_put_0 := by decide +kernel
theorem dksX0_put_1 : cX0_put.data.toList.drop 24 = dktX0_put_1 := dk_seg dksX0_put_0 24 rfl rfl
theorem dX0_put_0 : decode cX0_put 0 = .ok (.aload_n 3, 1) := dk_45 (dk_at dksX0_put_0 0 rfl rfl)
theorem dX0_put_1 : decode cX0_put 1 = .ok (.iconst 0, 1) := dk_3 (dk_at dksX0_put_0 1 rfl rfl)
theorem dX0_put_2 : decode cX0_put 2 = .ok (.aload_n 0, 1) := dk_42 (dk_at dksX0_put_0 2 rfl rfl)
theorem dX0_put_3 : decode cX0_put 3 = .ok (.iload_n 1, 1) := dk_27 (dk_at dksX0_put_0 3 rfl rfl)
theorem dX0_put_4 : decode cX0_put 4 = .ok (.iload_n 2, 1) := dk_28 (dk_at dksX0_put_0 4 rfl rfl)
theorem dX0_put_5 : decode cX0_put 5 = .ok (.invokevirtual 36, 3) := dk_182 0 36 (dk_at dksX0_put_0 5 rfl rfl)
theorem dX0_put_8 : decode cX0_put 8 = .ok (.i2l, 1) := dk_133 (dk_at dksX0_put_0 8 rfl rfl)
theorem dX0_put_9 : decode cX0_put 9 = .ok (.lastore, 1) := dk_80 (dk_at dksX0_put_0 9 rfl rfl)
theorem dX0_put_10 : decode cX0_put 10 = .ok (.goto 15, 3) := dk_167 0 15 (dk_at dksX0_put_0 10 rfl rfl)
theorem dX0_put_13 : decode cX0_put 13 = .ok (.astore 4, 2) := dk_58 4 (dk_at dksX0_put_0 13 rfl rfl)
theorem dX0_put_15 : decode cX0_put 15 = .ok (.iconst 1, 1) := dk_4 (dk_at dksX0_put_0 15 rfl rfl)
theorem dX0_put_16 : decode cX0_put 16 = .ok (.ireturn, 1) := dk_172 (dk_at dksX0_put_0 16 rfl rfl)
theorem dX0_put_17 : decode cX0_put 17 = .ok (.astore 4, 2) := dk_58 4 (dk_at dksX0_put_0 17 rfl rfl)
theorem dX0_put_19 : decode cX0_put 19 = .ok (.iconst 2, 1) := dk_5 (dk_at dksX0_put_0 19 rfl rfl)
theorem dX0_put_20 : decode cX0_put 20 = .ok (.ireturn, 1) := dk_172 (dk_at dksX0_put_0 20 rfl rfl)
theorem dX0_put_21 : decode cX0_put 21 = .ok (.astore 4, 2) := dk_58 4 (dk_at dksX0_put_0 21 rfl rfl)
theorem dX0_put_23 : decode cX0_put 23 = .ok (.iconst 3, 1) := dk_6 (dk_at dksX0_put_0 23 rfl rfl)
theorem dX0_put_24 : decode cX0_put 24 = .ok (.ireturn, 1) := dk_172 (dk_at dksX0_put_1 0 rfl rfl)
theorem dX0_put_25 : decode cX0_put 25 = .ok (.iconst 0, 1) := dk_3 (dk_at dksX0_put_1 1 rfl rfl)
theorem dX0_put_26 : decode cX0_put 26 = .ok (.ireturn, 1) := dk_172 (dk_at dksX0_put_1 2 rfl rfl)
abbrev cX0_compile : ByteArray := method_10_code
def yX0_compile : MethodName := ⟨RX0, "compile", "(LTemplateEngine;I[J)I"⟩
def dkwX0_compile_0 : List UInt8 := [44, 3, 42, 27, 182, 0, 39, 133, 80, 167, 0, 9, 78, 4, 172, 78, 5, 172, 3, 172]
abbrev dktX0_compile_0 : List UInt8 := dkwX0_compile_0 ++ []
theorem dksX0_compile_0 : cX0_compile.data.toList.drop 0 = dktX0_compile_0 := by decide +kernel
theorem dX0_compile_0 : decode cX0_compile 0 = .ok (.aload_n 2, 1) := dk_44 (dk_at dksX0_compile_0 0 rfl rfl)
theorem dX0_compile_1 : decode cX0_compile 1 = .ok (.iconst 0, 1) := dk_3 (dk_at dksX0_compile_0 1 rfl rfl)
theorem dX0_compile_2 : decode cX0_compile 2 = .ok (.aload_n 0, 1) := dk_42 (dk_at dksX0_compile_0 2 rfl rfl)
theorem dX0_compile_3 : decode cX0_compile 3 = .ok (.iload_n 1, 1) := dk_27 (dk_at dksX0_compile_0 3 rfl rfl)
theorem dX0_compile_4 : decode cX0_compile 4 = .ok (.invokevirtual 39, 3) := dk_182 0 39 (dk_at dksX0_compile_0 4 rfl rfl)
theorem dX0_compile_7 : decode cX0_compile 7 = .ok (.i2l, 1) := dk_133 (dk_at dksX0_compile_0 7 rfl rfl)
theorem dX0_compile_8 : decode cX0_compile 8 = .ok (.lastore, 1) := dk_80 (dk_at dksX0_compile_0 8 rfl rfl)
theorem dX0_compile_9 : decode cX0_compile 9 = .ok (.goto 9, 3) := dk_167 0 9 (dk_at dksX0_compile_0 9 rfl rfl)
theorem dX0_compile_12 : decode cX0_compile 12 = .ok (.astore_n 3, 1) := dk_78 (dk_at dksX0_compile_0 12 rfl rfl)
theorem dX0_compile_13 : decode cX0_compile 13 = .ok (.iconst 1, 1) := dk_4 (dk_at dksX0_compile_0 13 rfl rfl)
theorem dX0_compile_14 : decode cX0_compile 14 = .ok (.ireturn, 1) := dk_172 (dk_at dksX0_compile_0 14 rfl rfl)
theorem dX0_compile_15 : decode cX0_compile 15 = .ok (.astore_n 3, 1) := dk_78 (dk_at dksX0_compile_0 15 rfl rfl)
theorem dX0_compile_16 : decode cX0_compile 16 = .ok (.iconst 2, 1) := dk_5 (dk_at dksX0_compile_0 16 rfl rfl)
theorem dX0_compile_17 : decode cX0_compile 17 = .ok (.ireturn, 1) := dk_172 (dk_at dksX0_compile_0 17 rfl rfl)
theorem dX0_compile_18 : decode cX0_compile 18 = .ok (.iconst 0, 1) := dk_3 (dk_at dksX0_compile_0 18 rfl rfl)
theorem dX0_compile_19 : decode cX0_compile 19 = .ok (.ireturn, 1) := dk_172 (dk_at dksX0_compile_0 19 rfl rfl)
abbrev cX0_render : ByteArray := method_11_code
def yX0_render : MethodName := ⟨RX0, "render", "(LTemplateEngine;II[J)I"⟩
def dkwX0_render_1 : List UInt8 := [172, 58, 4, 7, 172, 3, 172]
abbrev dktX0_render_1 : List UInt8 := dkwX0_render_1 ++ []
def dkwX0_render_0 : List UInt8 := [45, 3, 42, 27, 28, 182, 0, 44, 133, 80, 167, 0, 19, 58, 4, 4, 172, 58, 4, 5, 172, 58, 4, 6]
abbrev dktX0_render_0 : List UInt8 := dkwX0_render_0 ++ dktX0_render_1
theorem dksX0_render_0 : cX0_render.data.toList.drop 0 = dktX0_render_0 := by decide +kernel
theorem dksX0_render_1 : cX0_render.data.toList.drop 24 = dktX0_render_1 := dk_seg dksX0_render_0 24 rfl rfl
theorem dX0_render_0 : decode cX0_render 0 = .ok (.aload_n 3, 1) := dk_45 (dk_at dksX0_render_0 0 rfl rfl)
theorem dX0_render_1 : decode cX0_render 1 = .ok (.iconst 0, 1) := dk_3 (dk_at dksX0_render_0 1 rfl rfl)
theorem dX0_render_2 : decode cX0_render 2 = .ok (.aload_n 0, 1) := dk_42 (dk_at dksX0_render_0 2 rfl rfl)
theorem dX0_render_3 : decode cX0_render 3 = .ok (.iload_n 1, 1) := dk_27 (dk_at dksX0_render_0 3 rfl rfl)
theorem dX0_render_4 : decode cX0_render 4 = .ok (.iload_n 2, 1) := dk_28 (dk_at dksX0_render_0 4 rfl rfl)
theorem dX0_render_5 : decode cX0_render 5 = .ok (.invokevirtual 44, 3) := dk_182 0 44 (dk_at dksX0_render_0 5 rfl rfl)
theorem dX0_render_8 : decode cX0_render 8 = .ok (.i2l, 1) := dk_133 (dk_at dksX0_render_0 8 rfl rfl)
theorem dX0_render_9 : decode cX0_render 9 = .ok (.lastore, 1) := dk_80 (dk_at dksX0_render_0 9 rfl rfl)
theorem dX0_render_10 : decode cX0_render 10 = .ok (.goto 19, 3) := dk_167 0 19 (dk_at dksX0_render_0 10 rfl rfl)
theorem dX0_render_13 : decode cX0_render 13 = .ok (.astore 4, 2) := dk_58 4 (dk_at dksX0_render_0 13 rfl rfl)
theorem dX0_render_15 : decode cX0_render 15 = .ok (.iconst 1, 1) := dk_4 (dk_at dksX0_render_0 15 rfl rfl)
theorem dX0_render_16 : decode cX0_render 16 = .ok (.ireturn, 1) := dk_172 (dk_at dksX0_render_0 16 rfl rfl)
theorem dX0_render_17 : decode cX0_render 17 = .ok (.astore 4, 2) := dk_58 4 (dk_at dksX0_render_0 17 rfl rfl)
theorem dX0_render_19 : decode cX0_render 19 = .ok (.iconst 2, 1) := dk_5 (dk_at dksX0_render_0 19 rfl rfl)
theorem dX0_render_20 : decode cX0_render 20 = .ok (.ireturn, 1) := dk_172 (dk_at dksX0_render_0 20 rfl rfl)
theorem dX0_render_21 : decode cX0_render 21 = .ok (.astore 4, 2) := dk_58 4 (dk_at dksX0_render_0 21 rfl rfl)
theorem dX0_render_23 : decode cX0_render 23 = .ok (.iconst 3, 1) := dk_6 (dk_at dksX0_render_0 23 rfl rfl)
theorem dX0_render_24 : decode cX0_render 24 = .ok (.ireturn, 1) := dk_172 (dk_at dksX0_render_1 0 rfl rfl)
theorem dX0_render_25 : decode cX0_render 25 = .ok (.astore 4, 2) := dk_58 4 (dk_at dksX0_render_1 1 rfl rfl)
theorem dX0_render_27 : decode cX0_render 27 = .ok (.iconst 4, 1) := dk_7 (dk_at dksX0_render_1 3 rfl rfl)
theorem dX0_render_28 : decode cX0_render 28 = .ok (.ireturn, 1) := dk_172 (dk_at dksX0_render_1 4 rfl rfl)
theorem dX0_render_29 : decode cX0_render 29 = .ok (.iconst 0, 1) := dk_3 (dk_at dksX0_render_1 5 rfl rfl)
theorem dX0_render_30 : decode cX0_render 30 = .ok (.ireturn, 1) := dk_172 (dk_at dksX0_render_1 6 rfl rfl)
abbrev cX0_at : ByteArray := method_12_code
def yX0_at : MethodName := ⟨RX0, "at", "(LTemplateEngine;I[J)I"⟩
def dkwX0_at_0 : List UInt8 := [44, 3, 42, 27, 182, 0, 49, 133, 80, 167, 0, 6, 78, 4, 172, 3, 172]
abbrev dktX0_at_0 : List UInt8 := dkwX0_at_0 ++ []
theorem dksX0_at_0 : cX0_at.data.toList.drop 0 = dktX0_at_0 := by decide +kernel
theorem dX0_at_0 : decode cX0_at 0 = .ok (.aload_n 2, 1) := dk_44 (dk_at dksX0_at_0 0 rfl rfl)
theorem dX0_at_1 : decode cX0_at 1 = .ok (.iconst 0, 1) := dk_3 (dk_at dksX0_at_0 1 rfl rfl)
theorem dX0_at_2 : decode cX0_at 2 = .ok (.aload_n 0, 1) := dk_42 (dk_at dksX0_at_0 2 rfl rfl)
theorem dX0_at_3 : decode cX0_at 3 = .ok (.iload_n 1, 1) := dk_27 (dk_at dksX0_at_0 3 rfl rfl)
theorem dX0_at_4 : decode cX0_at 4 = .ok (.invokevirtual 49, 3) := dk_182 0 49 (dk_at dksX0_at_0 4 rfl rfl)
theorem dX0_at_7 : decode cX0_at 7 = .ok (.i2l, 1) := dk_133 (dk_at dksX0_at_0 7 rfl rfl)
theorem dX0_at_8 : decode cX0_at 8 = .ok (.lastore, 1) := dk_80 (dk_at dksX0_at_0 8 rfl rfl)
theorem dX0_at_9 : decode cX0_at 9 = .ok (.goto 6, 3) := dk_167 0 6 (dk_at dksX0_at_0 9 rfl rfl)
theorem dX0_at_12 : decode cX0_at 12 = .ok (.astore_n 3, 1) := dk_78 (dk_at dksX0_at_0 12 rfl rfl)
theorem dX0_at_13 : decode cX0_at 13 = .ok (.iconst 1, 1) := dk_4 (dk_at dksX0_at_0 13 rfl rfl)
theorem dX0_at_14 : decode cX0_at 14 = .ok (.ireturn, 1) := dk_172 (dk_at dksX0_at_0 14 rfl rfl)
theorem dX0_at_15 : decode cX0_at 15 = .ok (.iconst 0, 1) := dk_3 (dk_at dksX0_at_0 15 rfl rfl)
theorem dX0_at_16 : decode cX0_at 16 = .ok (.ireturn, 1) := dk_172 (dk_at dksX0_at_0 16 rfl rfl)
abbrev cX0_kind : ByteArray := method_13_code
def yX0_kind : MethodName := ⟨RX0, "kind", "(LTemplateEngine;I[J)I"⟩
def dkwX0_kind_0 : List UInt8 := [44, 3, 42, 27, 182, 0, 52, 133, 80, 167, 0, 6, 78, 4, 172, 3, 172]
abbrev dktX0_kind_0 : List UInt8 := dkwX0_kind_0 ++ []
theorem dksX0_kind_0 : cX0_kind.data.toList.drop 0 = dktX0_kind_0 := by decide +kernel
theorem dX0_kind_0 : decode cX0_kind 0 = .ok (.aload_n 2, 1) := dk_44 (dk_at dksX0_kind_0 0 rfl rfl)
theorem dX0_kind_1 : decode cX0_kind 1 = .ok (.iconst 0, 1) := dk_3 (dk_at dksX0_kind_0 1 rfl rfl)
theorem dX0_kind_2 : decode cX0_kind 2 = .ok (.aload_n 0, 1) := dk_42 (dk_at dksX0_kind_0 2 rfl rfl)
theorem dX0_kind_3 : decode cX0_kind 3 = .ok (.iload_n 1, 1) := dk_27 (dk_at dksX0_kind_0 3 rfl rfl)
theorem dX0_kind_4 : decode cX0_kind 4 = .ok (.invokevirtual 52, 3) := dk_182 0 52 (dk_at dksX0_kind_0 4 rfl rfl)
theorem dX0_kind_7 : decode cX0_kind 7 = .ok (.i2l, 1) := dk_133 (dk_at dksX0_kind_0 7 rfl rfl)
theorem dX0_kind_8 : decode cX0_kind 8 = .ok (.lastore, 1) := dk_80 (dk_at dksX0_kind_0 8 rfl rfl)
theorem dX0_kind_9 : decode cX0_kind 9 = .ok (.goto 6, 3) := dk_167 0 6 (dk_at dksX0_kind_0 9 rfl rfl)
theorem dX0_kind_12 : decode cX0_kind 12 = .ok (.astore_n 3, 1) := dk_78 (dk_at dksX0_kind_0 12 rfl rfl)
theorem dX0_kind_13 : decode cX0_kind 13 = .ok (.iconst 1, 1) := dk_4 (dk_at dksX0_kind_0 13 rfl rfl)
theorem dX0_kind_14 : decode cX0_kind 14 = .ok (.ireturn, 1) := dk_172 (dk_at dksX0_kind_0 14 rfl rfl)
theorem dX0_kind_15 : decode cX0_kind 15 = .ok (.iconst 0, 1) := dk_3 (dk_at dksX0_kind_0 15 rfl rfl)
theorem dX0_kind_16 : decode cX0_kind 16 = .ok (.ireturn, 1) := dk_172 (dk_at dksX0_kind_0 16 rfl rfl)
abbrev cX0_size : ByteArray := method_14_code
def yX0_size : MethodName := ⟨RX0, "size", "(LTemplateEngine;I[J)I"⟩
def dkwX0_size_0 : List UInt8 := [44, 3, 42, 27, 182, 0, 55, 133, 80, 167, 0, 6, 78, 4, 172, 3, 172]
abbrev dktX0_size_0 : List UInt8 := dkwX0_size_0 ++ []
theorem dksX0_size_0 : cX0_size.data.toList.drop 0 = dktX0_size_0 := by decide +kernel
theorem dX0_size_0 : decode cX0_size 0 = .ok (.aload_n 2, 1) := dk_44 (dk_at dksX0_size_0 0 rfl rfl)
theorem dX0_size_1 : decode cX0_size 1 = .ok (.iconst 0, 1) := dk_3 (dk_at dksX0_size_0 1 rfl rfl)
theorem dX0_size_2 : decode cX0_size 2 = .ok (.aload_n 0, 1) := dk_42 (dk_at dksX0_size_0 2 rfl rfl)
theorem dX0_size_3 : decode cX0_size 3 = .ok (.iload_n 1, 1) := dk_27 (dk_at dksX0_size_0 3 rfl rfl)
theorem dX0_size_4 : decode cX0_size 4 = .ok (.invokevirtual 55, 3) := dk_182 0 55 (dk_at dksX0_size_0 4 rfl rfl)
theorem dX0_size_7 : decode cX0_size 7 = .ok (.i2l, 1) := dk_133 (dk_at dksX0_size_0 7 rfl rfl)
theorem dX0_size_8 : decode cX0_size 8 = .ok (.lastore, 1) := dk_80 (dk_at dksX0_size_0 8 rfl rfl)
theorem dX0_size_9 : decode cX0_size 9 = .ok (.goto 6, 3) := dk_167 0 6 (dk_at dksX0_size_0 9 rfl rfl)
theorem dX0_size_12 : decode cX0_size 12 = .ok (.astore_n 3, 1) := dk_78 (dk_at dksX0_size_0 12 rfl rfl)
theorem dX0_size_13 : decode cX0_size 13 = .ok (.iconst 1, 1) := dk_4 (dk_at dksX0_size_0 13 rfl rfl)
theorem dX0_size_14 : decode cX0_size 14 = .ok (.ireturn, 1) := dk_172 (dk_at dksX0_size_0 14 rfl rfl)
theorem dX0_size_15 : decode cX0_size 15 = .ok (.iconst 0, 1) := dk_3 (dk_at dksX0_size_0 15 rfl rfl)
theorem dX0_size_16 : decode cX0_size 16 = .ok (.ireturn, 1) := dk_172 (dk_at dksX0_size_0 16 rfl rfl)
theorem q71 : (Jvm.Cond.initialized "TemplateEngineLaw") ∈ lw_all := lw_g (lw_at lw_m1 0 rfl) rfl
theorem q120 : (Jvm.Cond.classLink "TemplateEngineLaw" (8 : Nat) "TemplateEngine") ∈ lw_all := lw_g (lw_at lw_m1 49 rfl) rfl
theorem q122 : (Jvm.Cond.methodLink "TemplateEngineLaw" (58 : Nat) ({ cls := "TemplateEngine", name := "<init>", desc := "()V" } : Jvm.MethodName)) ∈ lw_all := lw_g (lw_at lw_m1 51 rfl) rfl
theorem q520 : (Jvm.Cond.methodLink "TemplateEngineLaw" (94 : Nat) ({ cls := "TemplateEngine", name := "errorAt", desc := "()I" } : Jvm.MethodName)) ∈ lw_all := lw_g (lw_at lw_m2 209 rfl) rfl
theorem q524 : (Jvm.Cond.methodLink "TemplateEngineLaw" (110 : Nat) ({ cls := "TemplateEngine", name := "count", desc := "(I)I" } : Jvm.MethodName)) ∈ lw_all := lw_g (lw_at lw_m2 213 rfl) rfl
theorem q538 : (Jvm.Cond.methodLink "TemplateEngineLaw" (62 : Nat) ({ cls := "TemplateEngineLaw", name := "type", desc := "(LTemplateEngine;I[J)I" } : Jvm.MethodName)) ∈ lw_all := lw_g (lw_at lw_m2 227 rfl) rfl
theorem q539 : (Jvm.Cond.static ({ cls := "TemplateEngineLaw", name := "type", desc := "(LTemplateEngine;I[J)I" } : Jvm.MethodName)) ∈ lw_all := lw_g (lw_at lw_m2 228 rfl) rfl
theorem q540 : (Jvm.Cond.codeWith ({ cls := "TemplateEngineLaw", name := "type", desc := "(LTemplateEngine;I[J)I" } : Jvm.MethodName) method_3_code (4 : Nat) (Option.some Jvm.ClassFile.FieldType.int) [((0 : Nat), (9 : Nat), (12 : Nat), (13 : Nat)), ((0 : Nat), (9 : Nat), (15 : Nat), (15 : Nat))]) ∈ lw_all := lw_g (lw_at lw_m2 229 rfl) rfl
theorem q541 : (Jvm.Cond.classLink "TemplateEngineLaw" (13 : Nat) "java/lang/IllegalArgumentException") ∈ lw_all := lw_g (lw_at lw_m2 230 rfl) rfl
theorem q542 : (Jvm.Cond.classLink "TemplateEngineLaw" (15 : Nat) "java/lang/IllegalStateException") ∈ lw_all := lw_g (lw_at lw_m2 231 rfl) rfl
theorem q543 : (Jvm.Cond.methodLink "TemplateEngineLaw" (7 : Nat) ({ cls := "TemplateEngine", name := "type", desc := "(I)I" } : Jvm.MethodName)) ∈ lw_all := lw_g (lw_at lw_m2 232 rfl) rfl
theorem q603 : (Jvm.Cond.methodLink "TemplateEngineLaw" (71 : Nat) ({ cls := "TemplateEngineLaw", name := "number", desc := "(LTemplateEngine;I[J)I" } : Jvm.MethodName)) ∈ lw_all := lw_g (lw_at lw_m3 52 rfl) rfl
theorem q604 : (Jvm.Cond.static ({ cls := "TemplateEngineLaw", name := "number", desc := "(LTemplateEngine;I[J)I" } : Jvm.MethodName)) ∈ lw_all := lw_g (lw_at lw_m3 53 rfl) rfl
theorem q605 : (Jvm.Cond.codeWith ({ cls := "TemplateEngineLaw", name := "number", desc := "(LTemplateEngine;I[J)I" } : Jvm.MethodName) method_4_code (4 : Nat) (Option.some Jvm.ClassFile.FieldType.int) [((0 : Nat), (9 : Nat), (12 : Nat), (15 : Nat))]) ∈ lw_all := lw_g (lw_at lw_m3 54 rfl) rfl
theorem q606 : (Jvm.Cond.methodLink "TemplateEngineLaw" (17 : Nat) ({ cls := "TemplateEngine", name := "number", desc := "(I)I" } : Jvm.MethodName)) ∈ lw_all := lw_g (lw_at lw_m3 55 rfl) rfl
theorem q694 : (Jvm.Cond.methodLink "TemplateEngineLaw" (74 : Nat) ({ cls := "TemplateEngineLaw", name := "text", desc := "(LTemplateEngine;[J)I" } : Jvm.MethodName)) ∈ lw_all := lw_g (lw_at lw_m3 143 rfl) rfl
theorem q695 : (Jvm.Cond.static ({ cls := "TemplateEngineLaw", name := "text", desc := "(LTemplateEngine;[J)I" } : Jvm.MethodName)) ∈ lw_all := lw_g (lw_at lw_m3 144 rfl) rfl
theorem q696 : (Jvm.Cond.codeWith ({ cls := "TemplateEngineLaw", name := "text", desc := "(LTemplateEngine;[J)I" } : Jvm.MethodName) method_5_code (3 : Nat) (Option.some Jvm.ClassFile.FieldType.int) [((0 : Nat), (8 : Nat), (11 : Nat), (15 : Nat))]) ∈ lw_all := lw_g (lw_at lw_m3 145 rfl) rfl
theorem q697 : (Jvm.Cond.methodLink "TemplateEngineLaw" (20 : Nat) ({ cls := "TemplateEngine", name := "text", desc := "()I" } : Jvm.MethodName)) ∈ lw_all := lw_g (lw_at lw_m3 146 rfl) rfl
theorem q784 : (Jvm.Cond.methodLink "TemplateEngineLaw" (78 : Nat) ({ cls := "TemplateEngineLaw", name := "list", desc := "(LTemplateEngine;[J)I" } : Jvm.MethodName)) ∈ lw_all := lw_g (lw_at lw_m3 233 rfl) rfl
theorem q785 : (Jvm.Cond.static ({ cls := "TemplateEngineLaw", name := "list", desc := "(LTemplateEngine;[J)I" } : Jvm.MethodName)) ∈ lw_all := lw_g (lw_at lw_m3 234 rfl) rfl
theorem q786 : (Jvm.Cond.codeWith ({ cls := "TemplateEngineLaw", name := "list", desc := "(LTemplateEngine;[J)I" } : Jvm.MethodName) method_6_code (3 : Nat) (Option.some Jvm.ClassFile.FieldType.int) [((0 : Nat), (8 : Nat), (11 : Nat), (15 : Nat))]) ∈ lw_all := lw_g (lw_at lw_m3 235 rfl) rfl
theorem q787 : (Jvm.Cond.methodLink "TemplateEngineLaw" (24 : Nat) ({ cls := "TemplateEngine", name := "list", desc := "()I" } : Jvm.MethodName)) ∈ lw_all := lw_g (lw_at lw_m3 236 rfl) rfl
theorem q814 : (Jvm.Cond.methodLink "TemplateEngineLaw" (81 : Nat) ({ cls := "TemplateEngineLaw", name := "map", desc := "(LTemplateEngine;[J)I" } : Jvm.MethodName)) ∈ lw_all := lw_g (lw_at lw_m4 23 rfl) rfl
theorem q815 : (Jvm.Cond.static ({ cls := "TemplateEngineLaw", name := "map", desc := "(LTemplateEngine;[J)I" } : Jvm.MethodName)) ∈ lw_all := lw_g (lw_at lw_m4 24 rfl) rfl
theorem q816 : (Jvm.Cond.codeWith ({ cls := "TemplateEngineLaw", name := "map", desc := "(LTemplateEngine;[J)I" } : Jvm.MethodName) method_7_code (3 : Nat) (Option.some Jvm.ClassFile.FieldType.int) [((0 : Nat), (8 : Nat), (11 : Nat), (15 : Nat))]) ∈ lw_all := lw_g (lw_at lw_m4 25 rfl) rfl
theorem q817 : (Jvm.Cond.methodLink "TemplateEngineLaw" (27 : Nat) ({ cls := "TemplateEngine", name := "map", desc := "()I" } : Jvm.MethodName)) ∈ lw_all := lw_g (lw_at lw_m4 26 rfl) rfl
theorem q836 : (Jvm.Cond.methodLink "TemplateEngineLaw" (84 : Nat) ({ cls := "TemplateEngineLaw", name := "add", desc := "(LTemplateEngine;II[J)I" } : Jvm.MethodName)) ∈ lw_all := lw_g (lw_at lw_m4 45 rfl) rfl
theorem q837 : (Jvm.Cond.static ({ cls := "TemplateEngineLaw", name := "add", desc := "(LTemplateEngine;II[J)I" } : Jvm.MethodName)) ∈ lw_all := lw_g (lw_at lw_m4 46 rfl) rfl
theorem q838 : (Jvm.Cond.codeWith ({ cls := "TemplateEngineLaw", name := "add", desc := "(LTemplateEngine;II[J)I" } : Jvm.MethodName) method_8_code (5 : Nat) (Option.some Jvm.ClassFile.FieldType.int) [((0 : Nat), (10 : Nat), (13 : Nat), (34 : Nat)), ((0 : Nat), (10 : Nat), (17 : Nat), (13 : Nat)), ((0 : Nat), (10 : Nat), (21 : Nat), (15 : Nat))]) ∈ lw_all := lw_g (lw_at lw_m4 47 rfl) rfl
theorem q839 : (Jvm.Cond.classLink "TemplateEngineLaw" (34 : Nat) "java/util/NoSuchElementException") ∈ lw_all := lw_g (lw_at lw_m4 48 rfl) rfl
theorem q840 : (Jvm.Cond.methodLink "TemplateEngineLaw" (30 : Nat) ({ cls := "TemplateEngine", name := "add", desc := "(II)I" } : Jvm.MethodName)) ∈ lw_all := lw_g (lw_at lw_m4 49 rfl) rfl
theorem q930 : (Jvm.Cond.methodLink "TemplateEngineLaw" (88 : Nat) ({ cls := "TemplateEngineLaw", name := "put", desc := "(LTemplateEngine;II[J)I" } : Jvm.MethodName)) ∈ lw_all := lw_g (lw_at lw_m4 139 rfl) rfl
theorem q931 : (Jvm.Cond.static ({ cls := "TemplateEngineLaw", name := "put", desc := "(LTemplateEngine;II[J)I" } : Jvm.MethodName)) ∈ lw_all := lw_g (lw_at lw_m4 140 rfl) rfl
theorem q932 : (Jvm.Cond.codeWith ({ cls := "TemplateEngineLaw", name := "put", desc := "(LTemplateEngine;II[J)I" } : Jvm.MethodName) method_9_code (5 : Nat) (Option.some Jvm.ClassFile.FieldType.int) [((0 : Nat), (10 : Nat), (13 : Nat), (34 : Nat)), ((0 : Nat), (10 : Nat), (17 : Nat), (13 : Nat)), ((0 : Nat), (10 : Nat), (21 : Nat), (15 : Nat))]) ∈ lw_all := lw_g (lw_at lw_m4 141 rfl) rfl
theorem q933 : (Jvm.Cond.methodLink "TemplateEngineLaw" (36 : Nat) ({ cls := "TemplateEngine", name := "put", desc := "(II)I" } : Jvm.MethodName)) ∈ lw_all := lw_g (lw_at lw_m4 142 rfl) rfl
theorem q977 : (Jvm.Cond.methodLink "TemplateEngineLaw" (91 : Nat) ({ cls := "TemplateEngineLaw", name := "compile", desc := "(LTemplateEngine;I[J)I" } : Jvm.MethodName)) ∈ lw_all := lw_g (lw_at lw_m4 186 rfl) rfl
theorem q978 : (Jvm.Cond.static ({ cls := "TemplateEngineLaw", name := "compile", desc := "(LTemplateEngine;I[J)I" } : Jvm.MethodName)) ∈ lw_all := lw_g (lw_at lw_m4 187 rfl) rfl
theorem q979 : (Jvm.Cond.codeWith ({ cls := "TemplateEngineLaw", name := "compile", desc := "(LTemplateEngine;I[J)I" } : Jvm.MethodName) method_10_code (4 : Nat) (Option.some Jvm.ClassFile.FieldType.int) [((0 : Nat), (9 : Nat), (12 : Nat), (42 : Nat)), ((0 : Nat), (9 : Nat), (15 : Nat), (13 : Nat))]) ∈ lw_all := lw_g (lw_at lw_m4 188 rfl) rfl
theorem q980 : (Jvm.Cond.classLink "TemplateEngineLaw" (42 : Nat) "java/lang/IndexOutOfBoundsException") ∈ lw_all := lw_g (lw_at lw_m4 189 rfl) rfl
theorem q983 : (Jvm.Cond.methodLink "TemplateEngineLaw" (39 : Nat) ({ cls := "TemplateEngine", name := "compile", desc := "(I)I" } : Jvm.MethodName)) ∈ lw_all := lw_g (lw_at lw_m4 192 rfl) rfl
theorem q1392 : (Jvm.Cond.methodLink "TemplateEngineLaw" (98 : Nat) ({ cls := "TemplateEngineLaw", name := "render", desc := "(LTemplateEngine;II[J)I" } : Jvm.MethodName)) ∈ lw_all := lw_g (lw_at lw_m6 121 rfl) rfl
theorem q1393 : (Jvm.Cond.static ({ cls := "TemplateEngineLaw", name := "render", desc := "(LTemplateEngine;II[J)I" } : Jvm.MethodName)) ∈ lw_all := lw_g (lw_at lw_m6 122 rfl) rfl
theorem q1394 : (Jvm.Cond.codeWith ({ cls := "TemplateEngineLaw", name := "render", desc := "(LTemplateEngine;II[J)I" } : Jvm.MethodName) method_11_code (5 : Nat) (Option.some Jvm.ClassFile.FieldType.int) [((0 : Nat), (10 : Nat), (13 : Nat), (42 : Nat)), ((0 : Nat), (10 : Nat), (17 : Nat), (34 : Nat)), ((0 : Nat), (10 : Nat), (21 : Nat), (47 : Nat)), ((0 : Nat), (10 : Nat), (25 : Nat), (15 : Nat))]) ∈ lw_all := lw_g (lw_at lw_m6 123 rfl) rfl
theorem q1395 : (Jvm.Cond.classLink "TemplateEngineLaw" (47 : Nat) "java/lang/ArithmeticException") ∈ lw_all := lw_g (lw_at lw_m6 124 rfl) rfl
theorem q1409 : (Jvm.Cond.methodLink "TemplateEngineLaw" (44 : Nat) ({ cls := "TemplateEngine", name := "render", desc := "(II)I" } : Jvm.MethodName)) ∈ lw_all := lw_g (lw_at lw_m6 138 rfl) rfl
theorem q1767 : (Jvm.Cond.methodLink "TemplateEngineLaw" (101 : Nat) ({ cls := "TemplateEngineLaw", name := "at", desc := "(LTemplateEngine;I[J)I" } : Jvm.MethodName)) ∈ lw_all := lw_g (lw_at lw_m8 16 rfl) rfl
theorem q1768 : (Jvm.Cond.static ({ cls := "TemplateEngineLaw", name := "at", desc := "(LTemplateEngine;I[J)I" } : Jvm.MethodName)) ∈ lw_all := lw_g (lw_at lw_m8 17 rfl) rfl
theorem q1769 : (Jvm.Cond.codeWith ({ cls := "TemplateEngineLaw", name := "at", desc := "(LTemplateEngine;I[J)I" } : Jvm.MethodName) method_12_code (4 : Nat) (Option.some Jvm.ClassFile.FieldType.int) [((0 : Nat), (9 : Nat), (12 : Nat), (42 : Nat))]) ∈ lw_all := lw_g (lw_at lw_m8 18 rfl) rfl
theorem q1770 : (Jvm.Cond.methodLink "TemplateEngineLaw" (49 : Nat) ({ cls := "TemplateEngine", name := "at", desc := "(I)I" } : Jvm.MethodName)) ∈ lw_all := lw_g (lw_at lw_m8 19 rfl) rfl
theorem q1778 : (Jvm.Cond.methodLink "TemplateEngineLaw" (104 : Nat) ({ cls := "TemplateEngineLaw", name := "kind", desc := "(LTemplateEngine;I[J)I" } : Jvm.MethodName)) ∈ lw_all := lw_g (lw_at lw_m8 27 rfl) rfl
theorem q1779 : (Jvm.Cond.static ({ cls := "TemplateEngineLaw", name := "kind", desc := "(LTemplateEngine;I[J)I" } : Jvm.MethodName)) ∈ lw_all := lw_g (lw_at lw_m8 28 rfl) rfl
theorem q1780 : (Jvm.Cond.codeWith ({ cls := "TemplateEngineLaw", name := "kind", desc := "(LTemplateEngine;I[J)I" } : Jvm.MethodName) method_13_code (4 : Nat) (Option.some Jvm.ClassFile.FieldType.int) [((0 : Nat), (9 : Nat), (12 : Nat), (34 : Nat))]) ∈ lw_all := lw_g (lw_at lw_m8 29 rfl) rfl
theorem q1781 : (Jvm.Cond.methodLink "TemplateEngineLaw" (52 : Nat) ({ cls := "TemplateEngine", name := "kind", desc := "(I)I" } : Jvm.MethodName)) ∈ lw_all := lw_g (lw_at lw_m8 30 rfl) rfl
theorem q1785 : (Jvm.Cond.methodLink "TemplateEngineLaw" (107 : Nat) ({ cls := "TemplateEngineLaw", name := "size", desc := "(LTemplateEngine;I[J)I" } : Jvm.MethodName)) ∈ lw_all := lw_g (lw_at lw_m8 34 rfl) rfl
theorem q1786 : (Jvm.Cond.static ({ cls := "TemplateEngineLaw", name := "size", desc := "(LTemplateEngine;I[J)I" } : Jvm.MethodName)) ∈ lw_all := lw_g (lw_at lw_m8 35 rfl) rfl
theorem q1787 : (Jvm.Cond.codeWith ({ cls := "TemplateEngineLaw", name := "size", desc := "(LTemplateEngine;I[J)I" } : Jvm.MethodName) method_14_code (4 : Nat) (Option.some Jvm.ClassFile.FieldType.int) [((0 : Nat), (9 : Nat), (12 : Nat), (34 : Nat))]) ∈ lw_all := lw_g (lw_at lw_m8 36 rfl) rfl
theorem q1788 : (Jvm.Cond.methodLink "TemplateEngineLaw" (55 : Nat) ({ cls := "TemplateEngine", name := "size", desc := "(I)I" } : Jvm.MethodName)) ∈ lw_all := lw_g (lw_at lw_m8 37 rfl) rfl
theorem q1793 : (Jvm.Cond.classLink "TemplateEngineLaw" (59 : Nat) "TemplateEngineModel") ∈ lw_all := lw_g (lw_at lw_m8 42 rfl) rfl
theorem q1795 : (Jvm.Cond.methodLink "TemplateEngineLaw" (61 : Nat) ({ cls := "TemplateEngineModel", name := "<init>", desc := "()V" } : Jvm.MethodName)) ∈ lw_all := lw_g (lw_at lw_m8 44 rfl) rfl
theorem q1948 : (Jvm.Cond.methodLink "TemplateEngineLaw" (68 : Nat) ({ cls := "TemplateEngineModel", name := "thrown", desc := "()I" } : Jvm.MethodName)) ∈ lw_all := lw_g (lw_at lw_m8 197 rfl) rfl
theorem q1952 : (Jvm.Cond.methodLink "TemplateEngineLaw" (67 : Nat) ({ cls := "TemplateEngineModel", name := "type", desc := "(I)I" } : Jvm.MethodName)) ∈ lw_all := lw_g (lw_at lw_m8 201 rfl) rfl
theorem q1964 : (Jvm.Cond.methodLink "TemplateEngineLaw" (73 : Nat) ({ cls := "TemplateEngineModel", name := "number", desc := "(I)I" } : Jvm.MethodName)) ∈ lw_all := lw_g (lw_at lw_m8 213 rfl) rfl
theorem q1972 : (Jvm.Cond.methodLink "TemplateEngineLaw" (77 : Nat) ({ cls := "TemplateEngineModel", name := "text", desc := "()I" } : Jvm.MethodName)) ∈ lw_all := lw_g (lw_at lw_m8 221 rfl) rfl
theorem q1976 : (Jvm.Cond.methodLink "TemplateEngineLaw" (80 : Nat) ({ cls := "TemplateEngineModel", name := "list", desc := "()I" } : Jvm.MethodName)) ∈ lw_all := lw_g (lw_at lw_m8 225 rfl) rfl
theorem q1980 : (Jvm.Cond.methodLink "TemplateEngineLaw" (83 : Nat) ({ cls := "TemplateEngineModel", name := "map", desc := "()I" } : Jvm.MethodName)) ∈ lw_all := lw_g (lw_at lw_m8 229 rfl) rfl
theorem q1984 : (Jvm.Cond.methodLink "TemplateEngineLaw" (87 : Nat) ({ cls := "TemplateEngineModel", name := "add", desc := "(II)I" } : Jvm.MethodName)) ∈ lw_all := lw_g (lw_at lw_m8 233 rfl) rfl
theorem q1996 : (Jvm.Cond.methodLink "TemplateEngineLaw" (90 : Nat) ({ cls := "TemplateEngineModel", name := "put", desc := "(II)I" } : Jvm.MethodName)) ∈ lw_all := lw_g (lw_at lw_m9 5 rfl) rfl
theorem q2014 : (Jvm.Cond.methodLink "TemplateEngineLaw" (93 : Nat) ({ cls := "TemplateEngineModel", name := "compile", desc := "(I)I" } : Jvm.MethodName)) ∈ lw_all := lw_g (lw_at lw_m9 23 rfl) rfl
theorem q2096 : (Jvm.Cond.methodLink "TemplateEngineLaw" (97 : Nat) ({ cls := "TemplateEngineModel", name := "errorAt", desc := "()I" } : Jvm.MethodName)) ∈ lw_all := lw_g (lw_at lw_m9 105 rfl) rfl
theorem q2100 : (Jvm.Cond.methodLink "TemplateEngineLaw" (100 : Nat) ({ cls := "TemplateEngineModel", name := "render", desc := "(II)I" } : Jvm.MethodName)) ∈ lw_all := lw_g (lw_at lw_m9 109 rfl) rfl
theorem q2243 : (Jvm.Cond.methodLink "TemplateEngineLaw" (103 : Nat) ({ cls := "TemplateEngineModel", name := "at", desc := "(I)I" } : Jvm.MethodName)) ∈ lw_all := lw_g (lw_at lw_m10 12 rfl) rfl
theorem q2247 : (Jvm.Cond.methodLink "TemplateEngineLaw" (106 : Nat) ({ cls := "TemplateEngineModel", name := "kind", desc := "(I)I" } : Jvm.MethodName)) ∈ lw_all := lw_g (lw_at lw_m10 16 rfl) rfl
theorem q2251 : (Jvm.Cond.methodLink "TemplateEngineLaw" (109 : Nat) ({ cls := "TemplateEngineModel", name := "size", desc := "(I)I" } : Jvm.MethodName)) ∈ lw_all := lw_g (lw_at lw_m10 20 rfl) rfl
theorem q2255 : (Jvm.Cond.methodLink "TemplateEngineLaw" (113 : Nat) ({ cls := "TemplateEngineModel", name := "count", desc := "(I)I" } : Jvm.MethodName)) ∈ lw_all := lw_g (lw_at lw_m10 24 rfl) rfl

/-! TemplateEngine -/
set_option maxRecDepth 100000
def RX1 : String := "TemplateEngine"
def TX1 : u_T := fun k => match k with
  | 0 => ("TemplateEngine", "data", "Ljava/util/ArrayList;", true)
  | 1 => ("TemplateEngine", "templates", "[[LTemplateEngine$Part;", true)
  | 2 => ("TemplateEngine", "line", "Ljava/lang/StringBuilder;", true)
  | 3 => ("TemplateEngine", "rendered", "LTemplateEngine$Output;", false)
  | 4 => ("TemplateEngine", "errorAt", "I", false)
  | 5 => ("TemplateEngine", "tags", "I", false)
  | 6 => ("TemplateEngine", "thrown", "I", false)
  | _ => ("TemplateEngine", "searches", "I", false)
def tyX1 : Nat → FieldType := fun k => match k with
  | 0 => .object "java/util/ArrayList"
  | 1 => .array (.array (.object "TemplateEngine$Part"))
  | 2 => .object "java/lang/StringBuilder"
  | 3 => .object "TemplateEngine$Output"
  | 4 => .int
  | 5 => .int
  | 6 => .int
  | _ => .int
abbrev wsX10 : List Cond := u_ws RX1 TX1 8
theorem nmX1 : ∀ a, a < 8 → ∀ b, b < 8 → a ≠ b → (TX1 a).2.1 ≠ (TX1 b).2.1 := by decide +kernel
theorem tyX1_ok : ∀ k, k < 8 → parseFieldDescriptor (TX1 k).2.2.1 = some (tyX1 k) := by decide +kernel
abbrev cX1_init : ByteArray := prog_1_method_6_code
def yX1_init : MethodName := ⟨RX1, "<init>", "()V"⟩
def dkwX1_init_2 : List UInt8 := [183, 0, 59, 181, 0, 60, 42, 2, 181, 0, 7, 177]
abbrev dktX1_init_2 : List UInt8 := dkwX1_init_2 ++ []
def dkwX1_init_1 : List UInt8 := [181, 0, 46, 42, 187, 0, 50, 89, 17, 0, 200, 183, 0, 52, 181, 0, 53, 42, 187, 0, 57, 89]
abbrev dktX1_init_1 : List UInt8 := dkwX1_init_1 ++ dktX1_init_2
def dkwX1_init_0 : List UInt8 := [42, 183, 0, 32, 42, 187, 0, 35, 89, 16, 60, 183, 0, 37, 181, 0, 40, 42, 7, 189, 0, 44]
abbrev dktX1_init_0 : List UInt8 := dkwX1_init_0 ++ dktX1_init_1
theorem dksX1_init_0 : cX1_init.data.toList.drop 0 = dktX1_init_0 := by decide +kernel
theorem dksX1_init_1 : cX1_init.data.toList.drop 22 = dktX1_init_1 := dk_seg dksX1_init_0 22 rfl rfl
theorem dksX1_init_2 : cX1_init.data.toList.drop 44 = dktX1_init_2 := dk_seg dksX1_init_1 22 rfl rfl
theorem dX1_init_0 : decode cX1_init 0 = .ok (.aload_n 0, 1) := dk_42 (dk_at dksX1_init_0 0 rfl rfl)
theorem dX1_init_1 : decode cX1_init 1 = .ok (.invokespecial 32, 3) := dk_183 0 32 (dk_at dksX1_init_0 1 rfl rfl)
theorem dX1_init_4 : decode cX1_init 4 = .ok (.aload_n 0, 1) := dk_42 (dk_at dksX1_init_0 4 rfl rfl)
theorem dX1_init_5 : decode cX1_init 5 = .ok (.new 35, 3) := dk_187 0 35 (dk_at dksX1_init_0 5 rfl rfl)
theorem dX1_init_8 : decode cX1_init 8 = .ok (.dup, 1) := dk_89 (dk_at dksX1_init_0 8 rfl rfl)
theorem dX1_init_9 : decode cX1_init 9 = .ok (.bipush 60, 2) := dk_16 60 (dk_at dksX1_init_0 9 rfl rfl)
theorem dX1_init_11 : decode cX1_init 11 = .ok (.invokespecial 37, 3) := dk_183 0 37 (dk_at dksX1_init_0 11 rfl rfl)
theorem dX1_init_14 : decode cX1_init 14 = .ok (.putfield 40, 3) := dk_181 0 40 (dk_at dksX1_init_0 14 rfl rfl)
theorem dX1_init_17 : decode cX1_init 17 = .ok (.aload_n 0, 1) := dk_42 (dk_at dksX1_init_0 17 rfl rfl)
theorem dX1_init_18 : decode cX1_init 18 = .ok (.iconst 4, 1) := dk_7 (dk_at dksX1_init_0 18 rfl rfl)
theorem dX1_init_19 : decode cX1_init 19 = .ok (.anewarray 44, 3) := dk_189 0 44 (dk_at dksX1_init_0 19 rfl rfl)
theorem dX1_init_22 : decode cX1_init 22 = .ok (.putfield 46, 3) := dk_181 0 46 (dk_at dksX1_init_1 0 rfl rfl)
theorem dX1_init_25 : decode cX1_init 25 = .ok (.aload_n 0, 1) := dk_42 (dk_at dksX1_init_1 3 rfl rfl)
theorem dX1_init_26 : decode cX1_init 26 = .ok (.new 50, 3) := dk_187 0 50 (dk_at dksX1_init_1 4 rfl rfl)
theorem dX1_init_29 : decode cX1_init 29 = .ok (.dup, 1) := dk_89 (dk_at dksX1_init_1 7 rfl rfl)
theorem dX1_init_30 : decode cX1_init 30 = .ok (.sipush 200, 3) := dk_17 0 200 (dk_at dksX1_init_1 8 rfl rfl)
theorem dX1_init_33 : decode cX1_init 33 = .ok (.invokespecial 52, 3) := dk_183 0 52 (dk_at dksX1_init_1 11 rfl rfl)
theorem dX1_init_36 : decode cX1_init 36 = .ok (.putfield 53, 3) := dk_181 0 53 (dk_at dksX1_init_1 14 rfl rfl)
theorem dX1_init_39 : decode cX1_init 39 = .ok (.aload_n 0, 1) := dk_42 (dk_at dksX1_init_1 17 rfl rfl)
theorem dX1_init_40 : decode cX1_init 40 = .ok (.new 57, 3) := dk_187 0 57 (dk_at dksX1_init_1 18 rfl rfl)
theorem dX1_init_43 : decode cX1_init 43 = .ok (.dup, 1) := dk_89 (dk_at dksX1_init_1 21 rfl rfl)
theorem dX1_init_44 : decode cX1_init 44 = .ok (.invokespecial 59, 3) := dk_183 0 59 (dk_at dksX1_init_2 0 rfl rfl)
theorem dX1_init_47 : decode cX1_init 47 = .ok (.putfield 60, 3) := dk_181 0 60 (dk_at dksX1_init_2 3 rfl rfl)
theorem dX1_init_50 : decode cX1_init 50 = .ok (.aload_n 0, 1) := dk_42 (dk_at dksX1_init_2 6 rfl rfl)
theorem dX1_init_51 : decode cX1_init 51 = .ok (.iconst (-1), 1) := dk_2 (dk_at dksX1_init_2 7 rfl rfl)
theorem dX1_init_52 : decode cX1_init 52 = .ok (.putfield 7, 3) := dk_181 0 7 (dk_at dksX1_init_2 8 rfl rfl)
theorem dX1_init_55 : decode cX1_init 55 = .ok (.return_, 1) := dk_177 (dk_at dksX1_init_2 11 rfl rfl)
abbrev cX1_errorAt : ByteArray := prog_1_method_22_code
def yX1_errorAt : MethodName := ⟨RX1, "errorAt", "()I"⟩
theorem dX1_errorAt_0 : decode cX1_errorAt 0 = .ok (.aload_n 0, 1) := by decide +kernel
theorem dX1_errorAt_1 : decode cX1_errorAt 1 = .ok (.getfield 7, 3) := by decide +kernel
theorem dX1_errorAt_4 : decode cX1_errorAt 4 = .ok (.ireturn, 1) := by decide +kernel
abbrev cX1_count : ByteArray := prog_1_method_28_code
def yX1_count : MethodName := ⟨RX1, "count", "(I)I"⟩
def dkwX1_count_4 : List UInt8 := [180, 0, 60, 182, 0, 208, 172, 42, 180, 0, 207, 172, 42, 180, 0, 64, 172, 2, 172]
abbrev dktX1_count_4 : List UInt8 := dkwX1_count_4 ++ []
def dkwX1_count_3 : List UInt8 := [162, 0, 21, 42, 180, 0, 46, 29, 50, 198, 0, 6, 132, 2, 1, 132, 3, 1, 167, 255, 236, 28, 172, 42]
abbrev dktX1_count_3 : List UInt8 := dkwX1_count_3 ++ dktX1_count_4
def dkwX1_count_2 : List UInt8 := [42, 180, 0, 40, 182, 0, 89, 172, 42, 180, 0, 53, 182, 0, 80, 172, 3, 61, 3, 62, 29, 7]
abbrev dktX1_count_2 : List UInt8 := dkwX1_count_2 ++ dktX1_count_3
def dkwX1_count_1 : List UInt8 := [170, 0, 0, 0, 0, 0, 102, 0, 0, 0, 0, 0, 0, 0, 5, 0, 0, 0, 39, 0, 0, 0, 47, 0, 0, 0, 55, 0, 0, 0, 84, 0, 0, 0, 92, 0, 0, 0, 97]
abbrev dktX1_count_1 : List UInt8 := dkwX1_count_1 ++ dktX1_count_2
def dkwX1_count_0 : List UInt8 := [27]
abbrev dktX1_count_0 : List UInt8 := dkwX1_count_0 ++ dktX1_count_1
theorem dksX1_count_0 : cX1_count.data.toList.drop 0 = dktX1_count_0 := by decide +kernel
theorem dksX1_count_1 : cX1_count.data.toList.drop 1 = dktX1_count_1 := dk_seg dksX1_count_0 1 rfl rfl
theorem dksX1_count_2 : cX1_count.data.toList.drop 40 = dktX1_count_2 := dk_seg dksX1_count_1 39 rfl rfl
theorem dksX1_count_3 : cX1_count.data.toList.drop 62 = dktX1_count_3 := dk_seg dksX1_count_2 22 rfl rfl
theorem dksX1_count_4 : cX1_count.data.toList.drop 86 = dktX1_count_4 := dk_seg dksX1_count_3 24 rfl rfl
theorem dX1_count_0 : decode cX1_count 0 = .ok (.iload_n 1, 1) := dk_27 (dk_at dksX1_count_0 0 rfl rfl)
theorem dX1_count_1 : decode cX1_count 1 = .ok (.tableswitch 102 0 5 #[39, 47, 55, 84, 92, 97], 39) := by decide +kernel
theorem dX1_count_40 : decode cX1_count 40 = .ok (.aload_n 0, 1) := dk_42 (dk_at dksX1_count_2 0 rfl rfl)
theorem dX1_count_41 : decode cX1_count 41 = .ok (.getfield 40, 3) := dk_180 0 40 (dk_at dksX1_count_2 1 rfl rfl)
theorem dX1_count_44 : decode cX1_count 44 = .ok (.invokevirtual 89, 3) := dk_182 0 89 (dk_at dksX1_count_2 4 rfl rfl)
theorem dX1_count_47 : decode cX1_count 47 = .ok (.ireturn, 1) := dk_172 (dk_at dksX1_count_2 7 rfl rfl)
theorem dX1_count_48 : decode cX1_count 48 = .ok (.aload_n 0, 1) := dk_42 (dk_at dksX1_count_2 8 rfl rfl)
theorem dX1_count_49 : decode cX1_count 49 = .ok (.getfield 53, 3) := dk_180 0 53 (dk_at dksX1_count_2 9 rfl rfl)
theorem dX1_count_52 : decode cX1_count 52 = .ok (.invokevirtual 80, 3) := dk_182 0 80 (dk_at dksX1_count_2 12 rfl rfl)
theorem dX1_count_55 : decode cX1_count 55 = .ok (.ireturn, 1) := dk_172 (dk_at dksX1_count_2 15 rfl rfl)
theorem dX1_count_56 : decode cX1_count 56 = .ok (.iconst 0, 1) := dk_3 (dk_at dksX1_count_2 16 rfl rfl)
theorem dX1_count_57 : decode cX1_count 57 = .ok (.istore_n 2, 1) := dk_61 (dk_at dksX1_count_2 17 rfl rfl)
theorem dX1_count_58 : decode cX1_count 58 = .ok (.iconst 0, 1) := dk_3 (dk_at dksX1_count_2 18 rfl rfl)
theorem dX1_count_59 : decode cX1_count 59 = .ok (.istore_n 3, 1) := dk_62 (dk_at dksX1_count_2 19 rfl rfl)
theorem dX1_count_60 : decode cX1_count 60 = .ok (.iload_n 3, 1) := dk_29 (dk_at dksX1_count_2 20 rfl rfl)
theorem dX1_count_61 : decode cX1_count 61 = .ok (.iconst 4, 1) := dk_7 (dk_at dksX1_count_2 21 rfl rfl)
theorem dX1_count_62 : decode cX1_count 62 = .ok (.if_icmp .ge 21, 3) := dk_162 0 21 (dk_at dksX1_count_3 0 rfl rfl)
theorem dX1_count_65 : decode cX1_count 65 = .ok (.aload_n 0, 1) := dk_42 (dk_at dksX1_count_3 3 rfl rfl)
theorem dX1_count_66 : decode cX1_count 66 = .ok (.getfield 46, 3) := dk_180 0 46 (dk_at dksX1_count_3 4 rfl rfl)
theorem dX1_count_69 : decode cX1_count 69 = .ok (.iload_n 3, 1) := dk_29 (dk_at dksX1_count_3 7 rfl rfl)
theorem dX1_count_70 : decode cX1_count 70 = .ok (.aaload, 1) := dk_50 (dk_at dksX1_count_3 8 rfl rfl)
theorem dX1_count_71 : decode cX1_count 71 = .ok (.ifnull 6, 3) := dk_198 0 6 (dk_at dksX1_count_3 9 rfl rfl)
theorem dX1_count_74 : decode cX1_count 74 = .ok (.iinc 2 1, 3) := dk_132 2 1 (dk_at dksX1_count_3 12 rfl rfl)
theorem dX1_count_77 : decode cX1_count 77 = .ok (.iinc 3 1, 3) := dk_132 3 1 (dk_at dksX1_count_3 15 rfl rfl)
theorem dX1_count_80 : decode cX1_count 80 = .ok (.goto (-20), 3) := dk_167 255 236 (dk_at dksX1_count_3 18 rfl rfl)
theorem dX1_count_83 : decode cX1_count 83 = .ok (.iload_n 2, 1) := dk_28 (dk_at dksX1_count_3 21 rfl rfl)
theorem dX1_count_84 : decode cX1_count 84 = .ok (.ireturn, 1) := dk_172 (dk_at dksX1_count_3 22 rfl rfl)
theorem dX1_count_85 : decode cX1_count 85 = .ok (.aload_n 0, 1) := dk_42 (dk_at dksX1_count_3 23 rfl rfl)
theorem dX1_count_86 : decode cX1_count 86 = .ok (.getfield 60, 3) := dk_180 0 60 (dk_at dksX1_count_4 0 rfl rfl)
theorem dX1_count_89 : decode cX1_count 89 = .ok (.invokevirtual 208, 3) := dk_182 0 208 (dk_at dksX1_count_4 3 rfl rfl)
theorem dX1_count_92 : decode cX1_count 92 = .ok (.ireturn, 1) := dk_172 (dk_at dksX1_count_4 6 rfl rfl)
theorem dX1_count_93 : decode cX1_count 93 = .ok (.aload_n 0, 1) := dk_42 (dk_at dksX1_count_4 7 rfl rfl)
theorem dX1_count_94 : decode cX1_count 94 = .ok (.getfield 207, 3) := dk_180 0 207 (dk_at dksX1_count_4 8 rfl rfl)
theorem dX1_count_97 : decode cX1_count 97 = .ok (.ireturn, 1) := dk_172 (dk_at dksX1_count_4 11 rfl rfl)
theorem dX1_count_98 : decode cX1_count 98 = .ok (.aload_n 0, 1) := dk_42 (dk_at dksX1_count_4 12 rfl rfl)
theorem dX1_count_99 : decode cX1_count 99 = .ok (.getfield 64, 3) := dk_180 0 64 (dk_at dksX1_count_4 13 rfl rfl)
theorem dX1_count_102 : decode cX1_count 102 = .ok (.ireturn, 1) := dk_172 (dk_at dksX1_count_4 16 rfl rfl)
theorem dX1_count_103 : decode cX1_count 103 = .ok (.iconst (-1), 1) := dk_2 (dk_at dksX1_count_4 17 rfl rfl)
theorem dX1_count_104 : decode cX1_count 104 = .ok (.ireturn, 1) := dk_172 (dk_at dksX1_count_4 18 rfl rfl)
abbrev cX1_type : ByteArray := prog_1_method_11_code
def yX1_type : MethodName := ⟨RX1, "type", "(I)I"⟩
def dkwX1_type_2 : List UInt8 := [180, 0, 53, 182, 0, 80, 172]
abbrev dktX1_type_2 : List UInt8 := dkwX1_type_2 ++ []
def dkwX1_type_1 : List UInt8 := [17, 0, 200, 160, 0, 8, 42, 182, 0, 81, 191, 42, 180, 0, 53, 27, 146, 182, 0, 85, 87, 42]
abbrev dktX1_type_1 : List UInt8 := dkwX1_type_1 ++ dktX1_type_2
def dkwX1_type_0 : List UInt8 := [27, 155, 0, 9, 27, 16, 127, 164, 0, 8, 42, 182, 0, 76, 191, 42, 180, 0, 53, 182, 0, 80]
abbrev dktX1_type_0 : List UInt8 := dkwX1_type_0 ++ dktX1_type_1
theorem dksX1_type_0 : cX1_type.data.toList.drop 0 = dktX1_type_0 := by decide +kernel
theorem dksX1_type_1 : cX1_type.data.toList.drop 22 = dktX1_type_1 := dk_seg dksX1_type_0 22 rfl rfl
theorem dksX1_type_2 : cX1_type.data.toList.drop 44 = dktX1_type_2 := dk_seg dksX1_type_1 22 rfl rfl
theorem dX1_type_0 : decode cX1_type 0 = .ok (.iload_n 1, 1) := dk_27 (dk_at dksX1_type_0 0 rfl rfl)
theorem dX1_type_1 : decode cX1_type 1 = .ok (.ifCond .lt 9, 3) := dk_155 0 9 (dk_at dksX1_type_0 1 rfl rfl)
theorem dX1_type_4 : decode cX1_type 4 = .ok (.iload_n 1, 1) := dk_27 (dk_at dksX1_type_0 4 rfl rfl)
theorem dX1_type_5 : decode cX1_type 5 = .ok (.bipush 127, 2) := dk_16 127 (dk_at dksX1_type_0 5 rfl rfl)
theorem dX1_type_7 : decode cX1_type 7 = .ok (.if_icmp .le 8, 3) := dk_164 0 8 (dk_at dksX1_type_0 7 rfl rfl)
theorem dX1_type_10 : decode cX1_type 10 = .ok (.aload_n 0, 1) := dk_42 (dk_at dksX1_type_0 10 rfl rfl)
theorem dX1_type_11 : decode cX1_type 11 = .ok (.invokevirtual 76, 3) := dk_182 0 76 (dk_at dksX1_type_0 11 rfl rfl)
theorem dX1_type_14 : decode cX1_type 14 = .ok (.athrow, 1) := dk_191 (dk_at dksX1_type_0 14 rfl rfl)
theorem dX1_type_15 : decode cX1_type 15 = .ok (.aload_n 0, 1) := dk_42 (dk_at dksX1_type_0 15 rfl rfl)
theorem dX1_type_16 : decode cX1_type 16 = .ok (.getfield 53, 3) := dk_180 0 53 (dk_at dksX1_type_0 16 rfl rfl)
theorem dX1_type_19 : decode cX1_type 19 = .ok (.invokevirtual 80, 3) := dk_182 0 80 (dk_at dksX1_type_0 19 rfl rfl)
theorem dX1_type_22 : decode cX1_type 22 = .ok (.sipush 200, 3) := dk_17 0 200 (dk_at dksX1_type_1 0 rfl rfl)
theorem dX1_type_25 : decode cX1_type 25 = .ok (.if_icmp .ne 8, 3) := dk_160 0 8 (dk_at dksX1_type_1 3 rfl rfl)
theorem dX1_type_28 : decode cX1_type 28 = .ok (.aload_n 0, 1) := dk_42 (dk_at dksX1_type_1 6 rfl rfl)
theorem dX1_type_29 : decode cX1_type 29 = .ok (.invokevirtual 81, 3) := dk_182 0 81 (dk_at dksX1_type_1 7 rfl rfl)
theorem dX1_type_32 : decode cX1_type 32 = .ok (.athrow, 1) := dk_191 (dk_at dksX1_type_1 10 rfl rfl)
theorem dX1_type_33 : decode cX1_type 33 = .ok (.aload_n 0, 1) := dk_42 (dk_at dksX1_type_1 11 rfl rfl)
theorem dX1_type_34 : decode cX1_type 34 = .ok (.getfield 53, 3) := dk_180 0 53 (dk_at dksX1_type_1 12 rfl rfl)
theorem dX1_type_37 : decode cX1_type 37 = .ok (.iload_n 1, 1) := dk_27 (dk_at dksX1_type_1 15 rfl rfl)
theorem dX1_type_38 : decode cX1_type 38 = .ok (.i2c, 1) := dk_146 (dk_at dksX1_type_1 16 rfl rfl)
theorem dX1_type_39 : decode cX1_type 39 = .ok (.invokevirtual 85, 3) := dk_182 0 85 (dk_at dksX1_type_1 17 rfl rfl)
theorem dX1_type_42 : decode cX1_type 42 = .ok (.pop, 1) := dk_87 (dk_at dksX1_type_1 20 rfl rfl)
theorem dX1_type_43 : decode cX1_type 43 = .ok (.aload_n 0, 1) := dk_42 (dk_at dksX1_type_1 21 rfl rfl)
theorem dX1_type_44 : decode cX1_type 44 = .ok (.getfield 53, 3) := dk_180 0 53 (dk_at dksX1_type_2 0 rfl rfl)
theorem dX1_type_47 : decode cX1_type 47 = .ok (.invokevirtual 80, 3) := dk_182 0 80 (dk_at dksX1_type_2 3 rfl rfl)
theorem dX1_type_50 : decode cX1_type 50 = .ok (.ireturn, 1) := dk_172 (dk_at dksX1_type_2 6 rfl rfl)
abbrev cX1_badArgument : ByteArray := prog_1_method_7_code
def yX1_badArgument : MethodName := ⟨RX1, "badArgument", "()Ljava/lang/IllegalArgumentException;"⟩
def dkwX1_badArgument_0 : List UInt8 := [42, 89, 180, 0, 64, 4, 96, 181, 0, 64, 187, 0, 13, 89, 183, 0, 15, 176]
abbrev dktX1_badArgument_0 : List UInt8 := dkwX1_badArgument_0 ++ []
theorem dksX1_badArgument_0 : cX1_badArgument.data.toList.drop 0 = dktX1_badArgument_0 := by decide +kernel
theorem dX1_badArgument_0 : decode cX1_badArgument 0 = .ok (.aload_n 0, 1) := dk_42 (dk_at dksX1_badArgument_0 0 rfl rfl)
theorem dX1_badArgument_1 : decode cX1_badArgument 1 = .ok (.dup, 1) := dk_89 (dk_at dksX1_badArgument_0 1 rfl rfl)
theorem dX1_badArgument_2 : decode cX1_badArgument 2 = .ok (.getfield 64, 3) := dk_180 0 64 (dk_at dksX1_badArgument_0 2 rfl rfl)
theorem dX1_badArgument_5 : decode cX1_badArgument 5 = .ok (.iconst 1, 1) := dk_4 (dk_at dksX1_badArgument_0 5 rfl rfl)
theorem dX1_badArgument_6 : decode cX1_badArgument 6 = .ok (.iadd, 1) := dk_96 (dk_at dksX1_badArgument_0 6 rfl rfl)
theorem dX1_badArgument_7 : decode cX1_badArgument 7 = .ok (.putfield 64, 3) := dk_181 0 64 (dk_at dksX1_badArgument_0 7 rfl rfl)
theorem dX1_badArgument_10 : decode cX1_badArgument 10 = .ok (.new 13, 3) := dk_187 0 13 (dk_at dksX1_badArgument_0 10 rfl rfl)
theorem dX1_badArgument_13 : decode cX1_badArgument 13 = .ok (.dup, 1) := dk_89 (dk_at dksX1_badArgument_0 13 rfl rfl)
theorem dX1_badArgument_14 : decode cX1_badArgument 14 = .ok (.invokespecial 15, 3) := dk_183 0 15 (dk_at dksX1_badArgument_0 14 rfl rfl)
theorem dX1_badArgument_17 : decode cX1_badArgument 17 = .ok (.areturn, 1) := dk_176 (dk_at dksX1_badArgument_0 17 rfl rfl)
abbrev cX1_badState : ByteArray := prog_1_method_8_code
def yX1_badState : MethodName := ⟨RX1, "badState", "()Ljava/lang/IllegalStateException;"⟩
def dkwX1_badState_0 : List UInt8 := [42, 89, 180, 0, 64, 4, 96, 181, 0, 64, 187, 0, 67, 89, 183, 0, 69, 176]
abbrev dktX1_badState_0 : List UInt8 := dkwX1_badState_0 ++ []
theorem dksX1_badState_0 : cX1_badState.data.toList.drop 0 = dktX1_badState_0 := by decide +kernel
theorem dX1_badState_0 : decode cX1_badState 0 = .ok (.aload_n 0, 1) := dk_42 (dk_at dksX1_badState_0 0 rfl rfl)
theorem dX1_badState_1 : decode cX1_badState 1 = .ok (.dup, 1) := dk_89 (dk_at dksX1_badState_0 1 rfl rfl)
theorem dX1_badState_2 : decode cX1_badState 2 = .ok (.getfield 64, 3) := dk_180 0 64 (dk_at dksX1_badState_0 2 rfl rfl)
theorem dX1_badState_5 : decode cX1_badState 5 = .ok (.iconst 1, 1) := dk_4 (dk_at dksX1_badState_0 5 rfl rfl)
theorem dX1_badState_6 : decode cX1_badState 6 = .ok (.iadd, 1) := dk_96 (dk_at dksX1_badState_0 6 rfl rfl)
theorem dX1_badState_7 : decode cX1_badState 7 = .ok (.putfield 64, 3) := dk_181 0 64 (dk_at dksX1_badState_0 7 rfl rfl)
theorem dX1_badState_10 : decode cX1_badState 10 = .ok (.new 67, 3) := dk_187 0 67 (dk_at dksX1_badState_0 10 rfl rfl)
theorem dX1_badState_13 : decode cX1_badState 13 = .ok (.dup, 1) := dk_89 (dk_at dksX1_badState_0 13 rfl rfl)
theorem dX1_badState_14 : decode cX1_badState 14 = .ok (.invokespecial 69, 3) := dk_183 0 69 (dk_at dksX1_badState_0 14 rfl rfl)
theorem dX1_badState_17 : decode cX1_badState 17 = .ok (.areturn, 1) := dk_176 (dk_at dksX1_badState_0 17 rfl rfl)
abbrev cX1_number : ByteArray := prog_1_method_13_code
def yX1_number : MethodName := ⟨RX1, "number", "(I)I"⟩
def dkwX1_number_0 : List UInt8 := [42, 187, 0, 96, 89, 27, 183, 0, 98, 182, 0, 99, 172]
abbrev dktX1_number_0 : List UInt8 := dkwX1_number_0 ++ []
theorem dksX1_number_0 : cX1_number.data.toList.drop 0 = dktX1_number_0 := by decide +kernel
theorem dX1_number_0 : decode cX1_number 0 = .ok (.aload_n 0, 1) := dk_42 (dk_at dksX1_number_0 0 rfl rfl)
theorem dX1_number_1 : decode cX1_number 1 = .ok (.new 96, 3) := dk_187 0 96 (dk_at dksX1_number_0 1 rfl rfl)
theorem dX1_number_4 : decode cX1_number 4 = .ok (.dup, 1) := dk_89 (dk_at dksX1_number_0 4 rfl rfl)
theorem dX1_number_5 : decode cX1_number 5 = .ok (.iload_n 1, 1) := dk_27 (dk_at dksX1_number_0 5 rfl rfl)
theorem dX1_number_6 : decode cX1_number 6 = .ok (.invokespecial 98, 3) := dk_183 0 98 (dk_at dksX1_number_0 6 rfl rfl)
theorem dX1_number_9 : decode cX1_number 9 = .ok (.invokevirtual 99, 3) := dk_182 0 99 (dk_at dksX1_number_0 9 rfl rfl)
theorem dX1_number_12 : decode cX1_number 12 = .ok (.ireturn, 1) := dk_172 (dk_at dksX1_number_0 12 rfl rfl)
abbrev cX1_make : ByteArray := prog_1_method_12_code
def yX1_make : MethodName := ⟨RX1, "make", "(LTemplateEngine$Data;)I"⟩
def dkwX1_make_1 : List UInt8 := [182, 0, 92, 87, 42, 180, 0, 40, 182, 0, 89, 4, 100, 172]
abbrev dktX1_make_1 : List UInt8 := dkwX1_make_1 ++ []
def dkwX1_make_0 : List UInt8 := [42, 180, 0, 40, 182, 0, 89, 16, 60, 160, 0, 8, 42, 182, 0, 81, 191, 42, 180, 0, 40, 43]
abbrev dktX1_make_0 : List UInt8 := dkwX1_make_0 ++ dktX1_make_1
theorem dksX1_make_0 : cX1_make.data.toList.drop 0 = dktX1_make_0 := by decide +kernel
theorem dksX1_make_1 : cX1_make.data.toList.drop 22 = dktX1_make_1 := dk_seg dksX1_make_0 22 rfl rfl
theorem dX1_make_0 : decode cX1_make 0 = .ok (.aload_n 0, 1) := dk_42 (dk_at dksX1_make_0 0 rfl rfl)
theorem dX1_make_1 : decode cX1_make 1 = .ok (.getfield 40, 3) := dk_180 0 40 (dk_at dksX1_make_0 1 rfl rfl)
theorem dX1_make_4 : decode cX1_make 4 = .ok (.invokevirtual 89, 3) := dk_182 0 89 (dk_at dksX1_make_0 4 rfl rfl)
theorem dX1_make_7 : decode cX1_make 7 = .ok (.bipush 60, 2) := dk_16 60 (dk_at dksX1_make_0 7 rfl rfl)
theorem dX1_make_9 : decode cX1_make 9 = .ok (.if_icmp .ne 8, 3) := dk_160 0 8 (dk_at dksX1_make_0 9 rfl rfl)
theorem dX1_make_12 : decode cX1_make 12 = .ok (.aload_n 0, 1) := dk_42 (dk_at dksX1_make_0 12 rfl rfl)
theorem dX1_make_13 : decode cX1_make 13 = .ok (.invokevirtual 81, 3) := dk_182 0 81 (dk_at dksX1_make_0 13 rfl rfl)
theorem dX1_make_16 : decode cX1_make 16 = .ok (.athrow, 1) := dk_191 (dk_at dksX1_make_0 16 rfl rfl)
theorem dX1_make_17 : decode cX1_make 17 = .ok (.aload_n 0, 1) := dk_42 (dk_at dksX1_make_0 17 rfl rfl)
theorem dX1_make_18 : decode cX1_make 18 = .ok (.getfield 40, 3) := dk_180 0 40 (dk_at dksX1_make_0 18 rfl rfl)
theorem dX1_make_21 : decode cX1_make 21 = .ok (.aload_n 1, 1) := dk_43 (dk_at dksX1_make_0 21 rfl rfl)
theorem dX1_make_22 : decode cX1_make 22 = .ok (.invokevirtual 92, 3) := dk_182 0 92 (dk_at dksX1_make_1 0 rfl rfl)
theorem dX1_make_25 : decode cX1_make 25 = .ok (.pop, 1) := dk_87 (dk_at dksX1_make_1 3 rfl rfl)
theorem dX1_make_26 : decode cX1_make 26 = .ok (.aload_n 0, 1) := dk_42 (dk_at dksX1_make_1 4 rfl rfl)
theorem dX1_make_27 : decode cX1_make 27 = .ok (.getfield 40, 3) := dk_180 0 40 (dk_at dksX1_make_1 5 rfl rfl)
theorem dX1_make_30 : decode cX1_make 30 = .ok (.invokevirtual 89, 3) := dk_182 0 89 (dk_at dksX1_make_1 8 rfl rfl)
theorem dX1_make_33 : decode cX1_make 33 = .ok (.iconst 1, 1) := dk_4 (dk_at dksX1_make_1 11 rfl rfl)
theorem dX1_make_34 : decode cX1_make 34 = .ok (.isub, 1) := dk_100 (dk_at dksX1_make_1 12 rfl rfl)
theorem dX1_make_35 : decode cX1_make 35 = .ok (.ireturn, 1) := dk_172 (dk_at dksX1_make_1 13 rfl rfl)
abbrev cX1_text : ByteArray := prog_1_method_14_code
def yX1_text : MethodName := ⟨RX1, "text", "()I"⟩
def dkwX1_text_1 : List UInt8 := [182, 0, 112, 27, 172]
abbrev dktX1_text_1 : List UInt8 := dkwX1_text_1 ++ []
def dkwX1_text_0 : List UInt8 := [42, 187, 0, 103, 89, 42, 180, 0, 53, 182, 0, 105, 183, 0, 109, 182, 0, 99, 60, 42, 180, 0, 53, 3]
abbrev dktX1_text_0 : List UInt8 := dkwX1_text_0 ++ dktX1_text_1
theorem dksX1_text_0 : cX1_text.data.toList.drop 0 = dktX1_text_0 := by decide +kernel
theorem dksX1_text_1 : cX1_text.data.toList.drop 24 = dktX1_text_1 := dk_seg dksX1_text_0 24 rfl rfl
theorem dX1_text_0 : decode cX1_text 0 = .ok (.aload_n 0, 1) := dk_42 (dk_at dksX1_text_0 0 rfl rfl)
theorem dX1_text_1 : decode cX1_text 1 = .ok (.new 103, 3) := dk_187 0 103 (dk_at dksX1_text_0 1 rfl rfl)
theorem dX1_text_4 : decode cX1_text 4 = .ok (.dup, 1) := dk_89 (dk_at dksX1_text_0 4 rfl rfl)
theorem dX1_text_5 : decode cX1_text 5 = .ok (.aload_n 0, 1) := dk_42 (dk_at dksX1_text_0 5 rfl rfl)
theorem dX1_text_6 : decode cX1_text 6 = .ok (.getfield 53, 3) := dk_180 0 53 (dk_at dksX1_text_0 6 rfl rfl)
theorem dX1_text_9 : decode cX1_text 9 = .ok (.invokevirtual 105, 3) := dk_182 0 105 (dk_at dksX1_text_0 9 rfl rfl)
theorem dX1_text_12 : decode cX1_text 12 = .ok (.invokespecial 109, 3) := dk_183 0 109 (dk_at dksX1_text_0 12 rfl rfl)
theorem dX1_text_15 : decode cX1_text 15 = .ok (.invokevirtual 99, 3) := dk_182 0 99 (dk_at dksX1_text_0 15 rfl rfl)
theorem dX1_text_18 : decode cX1_text 18 = .ok (.istore_n 1, 1) := dk_60 (dk_at dksX1_text_0 18 rfl rfl)
theorem dX1_text_19 : decode cX1_text 19 = .ok (.aload_n 0, 1) := dk_42 (dk_at dksX1_text_0 19 rfl rfl)
theorem dX1_text_20 : decode cX1_text 20 = .ok (.getfield 53, 3) := dk_180 0 53 (dk_at dksX1_text_0 20 rfl rfl)
theorem dX1_text_23 : decode cX1_text 23 = .ok (.iconst 0, 1) := dk_3 (dk_at dksX1_text_0 23 rfl rfl)
theorem dX1_text_24 : decode cX1_text 24 = .ok (.invokevirtual 112, 3) := dk_182 0 112 (dk_at dksX1_text_1 0 rfl rfl)
theorem dX1_text_27 : decode cX1_text 27 = .ok (.iload_n 1, 1) := dk_27 (dk_at dksX1_text_1 3 rfl rfl)
theorem dX1_text_28 : decode cX1_text 28 = .ok (.ireturn, 1) := dk_172 (dk_at dksX1_text_1 4 rfl rfl)
abbrev cX1_list : ByteArray := prog_1_method_15_code
def yX1_list : MethodName := ⟨RX1, "list", "()I"⟩
def dkwX1_list_0 : List UInt8 := [42, 187, 0, 115, 89, 183, 0, 117, 182, 0, 99, 172]
abbrev dktX1_list_0 : List UInt8 := dkwX1_list_0 ++ []
theorem dksX1_list_0 : cX1_list.data.toList.drop 0 = dktX1_list_0 := by decide +kernel
theorem dX1_list_0 : decode cX1_list 0 = .ok (.aload_n 0, 1) := dk_42 (dk_at dksX1_list_0 0 rfl rfl)
theorem dX1_list_1 : decode cX1_list 1 = .ok (.new 115, 3) := dk_187 0 115 (dk_at dksX1_list_0 1 rfl rfl)
theorem dX1_list_4 : decode cX1_list 4 = .ok (.dup, 1) := dk_89 (dk_at dksX1_list_0 4 rfl rfl)
theorem dX1_list_5 : decode cX1_list 5 = .ok (.invokespecial 117, 3) := dk_183 0 117 (dk_at dksX1_list_0 5 rfl rfl)
theorem dX1_list_8 : decode cX1_list 8 = .ok (.invokevirtual 99, 3) := dk_182 0 99 (dk_at dksX1_list_0 8 rfl rfl)
theorem dX1_list_11 : decode cX1_list 11 = .ok (.ireturn, 1) := dk_172 (dk_at dksX1_list_0 11 rfl rfl)
abbrev cX1_map : ByteArray := prog_1_method_16_code
def yX1_map : MethodName := ⟨RX1, "map", "()I"⟩
def dkwX1_map_0 : List UInt8 := [42, 187, 0, 118, 89, 183, 0, 120, 182, 0, 99, 172]
abbrev dktX1_map_0 : List UInt8 := dkwX1_map_0 ++ []
theorem dksX1_map_0 : cX1_map.data.toList.drop 0 = dktX1_map_0 := by decide +kernel
theorem dX1_map_0 : decode cX1_map 0 = .ok (.aload_n 0, 1) := dk_42 (dk_at dksX1_map_0 0 rfl rfl)
theorem dX1_map_1 : decode cX1_map 1 = .ok (.new 118, 3) := dk_187 0 118 (dk_at dksX1_map_0 1 rfl rfl)
theorem dX1_map_4 : decode cX1_map 4 = .ok (.dup, 1) := dk_89 (dk_at dksX1_map_0 4 rfl rfl)
theorem dX1_map_5 : decode cX1_map 5 = .ok (.invokespecial 120, 3) := dk_183 0 120 (dk_at dksX1_map_0 5 rfl rfl)
theorem dX1_map_8 : decode cX1_map 8 = .ok (.invokevirtual 99, 3) := dk_182 0 99 (dk_at dksX1_map_0 8 rfl rfl)
theorem dX1_map_11 : decode cX1_map 11 = .ok (.ireturn, 1) := dk_172 (dk_at dksX1_map_0 11 rfl rfl)
abbrev cX1_add : ByteArray := prog_1_method_18_code
def yX1_add : MethodName := ⟨RX1, "add", "(II)I"⟩
def dkwX1_add_4 : List UInt8 := [180, 0, 143, 172]
abbrev dktX1_add_4 : List UInt8 := dkwX1_add_4 ++ []
def dkwX1_add_3 : List UInt8 := [180, 0, 146, 25, 5, 180, 0, 143, 25, 4, 83, 25, 5, 89, 180, 0, 143, 4, 96, 181, 0, 143, 25, 5]
abbrev dktX1_add_3 : List UInt8 := dkwX1_add_3 ++ dktX1_add_4
def dkwX1_add_2 : List UInt8 := [192, 0, 115, 58, 5, 25, 5, 180, 0, 143, 16, 10, 160, 0, 8, 42, 182, 0, 81, 191, 25, 5]
abbrev dktX1_add_2 : List UInt8 := dkwX1_add_2 ++ dktX1_add_3
def dkwX1_add_1 : List UInt8 := [42, 89, 180, 0, 136, 4, 96, 90, 181, 0, 136, 182, 0, 139, 153, 0, 8, 42, 182, 0, 76, 191, 45]
abbrev dktX1_add_1 : List UInt8 := dkwX1_add_1 ++ dktX1_add_2
def dkwX1_add_0 : List UInt8 := [42, 27, 182, 0, 129, 78, 42, 28, 182, 0, 129, 58, 4, 45, 182, 0, 133, 5, 160, 0, 23, 25, 4, 45]
abbrev dktX1_add_0 : List UInt8 := dkwX1_add_0 ++ dktX1_add_1
theorem dksX1_add_0 : cX1_add.data.toList.drop 0 = dktX1_add_0 := by decide +kernel
theorem dksX1_add_1 : cX1_add.data.toList.drop 24 = dktX1_add_1 := dk_seg dksX1_add_0 24 rfl rfl
theorem dksX1_add_2 : cX1_add.data.toList.drop 47 = dktX1_add_2 := dk_seg dksX1_add_1 23 rfl rfl
theorem dksX1_add_3 : cX1_add.data.toList.drop 69 = dktX1_add_3 := dk_seg dksX1_add_2 22 rfl rfl
theorem dksX1_add_4 : cX1_add.data.toList.drop 93 = dktX1_add_4 := dk_seg dksX1_add_3 24 rfl rfl
theorem dX1_add_0 : decode cX1_add 0 = .ok (.aload_n 0, 1) := dk_42 (dk_at dksX1_add_0 0 rfl rfl)
theorem dX1_add_1 : decode cX1_add 1 = .ok (.iload_n 1, 1) := dk_27 (dk_at dksX1_add_0 1 rfl rfl)
theorem dX1_add_2 : decode cX1_add 2 = .ok (.invokevirtual 129, 3) := dk_182 0 129 (dk_at dksX1_add_0 2 rfl rfl)
theorem dX1_add_5 : decode cX1_add 5 = .ok (.astore_n 3, 1) := dk_78 (dk_at dksX1_add_0 5 rfl rfl)
theorem dX1_add_6 : decode cX1_add 6 = .ok (.aload_n 0, 1) := dk_42 (dk_at dksX1_add_0 6 rfl rfl)
theorem dX1_add_7 : decode cX1_add 7 = .ok (.iload_n 2, 1) := dk_28 (dk_at dksX1_add_0 7 rfl rfl)
theorem dX1_add_8 : decode cX1_add 8 = .ok (.invokevirtual 129, 3) := dk_182 0 129 (dk_at dksX1_add_0 8 rfl rfl)
theorem dX1_add_11 : decode cX1_add 11 = .ok (.astore 4, 2) := dk_58 4 (dk_at dksX1_add_0 11 rfl rfl)
theorem dX1_add_13 : decode cX1_add 13 = .ok (.aload_n 3, 1) := dk_45 (dk_at dksX1_add_0 13 rfl rfl)
theorem dX1_add_14 : decode cX1_add 14 = .ok (.invokevirtual 133, 3) := dk_182 0 133 (dk_at dksX1_add_0 14 rfl rfl)
theorem dX1_add_17 : decode cX1_add 17 = .ok (.iconst 2, 1) := dk_5 (dk_at dksX1_add_0 17 rfl rfl)
theorem dX1_add_18 : decode cX1_add 18 = .ok (.if_icmp .ne 23, 3) := dk_160 0 23 (dk_at dksX1_add_0 18 rfl rfl)
theorem dX1_add_21 : decode cX1_add 21 = .ok (.aload 4, 2) := dk_25 4 (dk_at dksX1_add_0 21 rfl rfl)
theorem dX1_add_23 : decode cX1_add 23 = .ok (.aload_n 3, 1) := dk_45 (dk_at dksX1_add_0 23 rfl rfl)
theorem dX1_add_24 : decode cX1_add 24 = .ok (.aload_n 0, 1) := dk_42 (dk_at dksX1_add_1 0 rfl rfl)
theorem dX1_add_25 : decode cX1_add 25 = .ok (.dup, 1) := dk_89 (dk_at dksX1_add_1 1 rfl rfl)
theorem dX1_add_26 : decode cX1_add 26 = .ok (.getfield 136, 3) := dk_180 0 136 (dk_at dksX1_add_1 2 rfl rfl)
theorem dX1_add_29 : decode cX1_add 29 = .ok (.iconst 1, 1) := dk_4 (dk_at dksX1_add_1 5 rfl rfl)
theorem dX1_add_30 : decode cX1_add 30 = .ok (.iadd, 1) := dk_96 (dk_at dksX1_add_1 6 rfl rfl)
theorem dX1_add_31 : decode cX1_add 31 = .ok (.dup_x1, 1) := dk_90 (dk_at dksX1_add_1 7 rfl rfl)
theorem dX1_add_32 : decode cX1_add 32 = .ok (.putfield 136, 3) := dk_181 0 136 (dk_at dksX1_add_1 8 rfl rfl)
theorem dX1_add_35 : decode cX1_add 35 = .ok (.invokevirtual 139, 3) := dk_182 0 139 (dk_at dksX1_add_1 11 rfl rfl)
theorem dX1_add_38 : decode cX1_add 38 = .ok (.ifCond .eq 8, 3) := dk_153 0 8 (dk_at dksX1_add_1 14 rfl rfl)
theorem dX1_add_41 : decode cX1_add 41 = .ok (.aload_n 0, 1) := dk_42 (dk_at dksX1_add_1 17 rfl rfl)
theorem dX1_add_42 : decode cX1_add 42 = .ok (.invokevirtual 76, 3) := dk_182 0 76 (dk_at dksX1_add_1 18 rfl rfl)
theorem dX1_add_45 : decode cX1_add 45 = .ok (.athrow, 1) := dk_191 (dk_at dksX1_add_1 21 rfl rfl)
theorem dX1_add_46 : decode cX1_add 46 = .ok (.aload_n 3, 1) := dk_45 (dk_at dksX1_add_1 22 rfl rfl)
theorem dX1_add_47 : decode cX1_add 47 = .ok (.checkcast 115, 3) := dk_192 0 115 (dk_at dksX1_add_2 0 rfl rfl)
theorem dX1_add_50 : decode cX1_add 50 = .ok (.astore 5, 2) := dk_58 5 (dk_at dksX1_add_2 3 rfl rfl)
theorem dX1_add_52 : decode cX1_add 52 = .ok (.aload 5, 2) := dk_25 5 (dk_at dksX1_add_2 5 rfl rfl)
theorem dX1_add_54 : decode cX1_add 54 = .ok (.getfield 143, 3) := dk_180 0 143 (dk_at dksX1_add_2 7 rfl rfl)
theorem dX1_add_57 : decode cX1_add 57 = .ok (.bipush 10, 2) := dk_16 10 (dk_at dksX1_add_2 10 rfl rfl)
theorem dX1_add_59 : decode cX1_add 59 = .ok (.if_icmp .ne 8, 3) := dk_160 0 8 (dk_at dksX1_add_2 12 rfl rfl)
theorem dX1_add_62 : decode cX1_add 62 = .ok (.aload_n 0, 1) := dk_42 (dk_at dksX1_add_2 15 rfl rfl)
theorem dX1_add_63 : decode cX1_add 63 = .ok (.invokevirtual 81, 3) := dk_182 0 81 (dk_at dksX1_add_2 16 rfl rfl)
theorem dX1_add_66 : decode cX1_add 66 = .ok (.athrow, 1) := dk_191 (dk_at dksX1_add_2 19 rfl rfl)
theorem dX1_add_67 : decode cX1_add 67 = .ok (.aload 5, 2) := dk_25 5 (dk_at dksX1_add_2 20 rfl rfl)
theorem dX1_add_69 : decode cX1_add 69 = .ok (.getfield 146, 3) := dk_180 0 146 (dk_at dksX1_add_3 0 rfl rfl)
theorem dX1_add_72 : decode cX1_add 72 = .ok (.aload 5, 2) := dk_25 5 (dk_at dksX1_add_3 3 rfl rfl)
theorem dX1_add_74 : decode cX1_add 74 = .ok (.getfield 143, 3) := dk_180 0 143 (dk_at dksX1_add_3 5 rfl rfl)
theorem dX1_add_77 : decode cX1_add 77 = .ok (.aload 4, 2) := dk_25 4 (dk_at dksX1_add_3 8 rfl rfl)
theorem dX1_add_79 : decode cX1_add 79 = .ok (.aastore, 1) := dk_83 (dk_at dksX1_add_3 10 rfl rfl)
theorem dX1_add_80 : decode cX1_add 80 = .ok (.aload 5, 2) := dk_25 5 (dk_at dksX1_add_3 11 rfl rfl)
theorem dX1_add_82 : decode cX1_add 82 = .ok (.dup, 1) := dk_89 (dk_at dksX1_add_3 13 rfl rfl)
theorem dX1_add_83 : decode cX1_add 83 = .ok (.getfield 143, 3) := dk_180 0 143 (dk_at dksX1_add_3 14 rfl rfl)
theorem dX1_add_86 : decode cX1_add 86 = .ok (.iconst 1, 1) := dk_4 (dk_at dksX1_add_3 17 rfl rfl)
theorem dX1_add_87 : decode cX1_add 87 = .ok (.iadd, 1) := dk_96 (dk_at dksX1_add_3 18 rfl rfl)
theorem dX1_add_88 : decode cX1_add 88 = .ok (.putfield 143, 3) := dk_181 0 143 (dk_at dksX1_add_3 19 rfl rfl)
theorem dX1_add_91 : decode cX1_add 91 = .ok (.aload 5, 2) := dk_25 5 (dk_at dksX1_add_3 22 rfl rfl)
theorem dX1_add_93 : decode cX1_add 93 = .ok (.getfield 143, 3) := dk_180 0 143 (dk_at dksX1_add_4 0 rfl rfl)
theorem dX1_add_96 : decode cX1_add 96 = .ok (.ireturn, 1) := dk_172 (dk_at dksX1_add_4 3 rfl rfl)
abbrev cX1_any : ByteArray := prog_1_method_17_code
def yX1_any : MethodName := ⟨RX1, "any", "(I)LTemplateEngine$Data;"⟩
def dkwX1_any_1 : List UInt8 := [27, 182, 0, 125, 192, 0, 2, 176]
abbrev dktX1_any_1 : List UInt8 := dkwX1_any_1 ++ []
def dkwX1_any_0 : List UInt8 := [27, 155, 0, 14, 27, 42, 180, 0, 40, 182, 0, 89, 161, 0, 8, 42, 182, 0, 121, 191, 42, 180, 0, 40]
abbrev dktX1_any_0 : List UInt8 := dkwX1_any_0 ++ dktX1_any_1
theorem dksX1_any_0 : cX1_any.data.toList.drop 0 = dktX1_any_0 := by decide +kernel
theorem dksX1_any_1 : cX1_any.data.toList.drop 24 = dktX1_any_1 := dk_seg dksX1_any_0 24 rfl rfl
theorem dX1_any_0 : decode cX1_any 0 = .ok (.iload_n 1, 1) := dk_27 (dk_at dksX1_any_0 0 rfl rfl)
theorem dX1_any_1 : decode cX1_any 1 = .ok (.ifCond .lt 14, 3) := dk_155 0 14 (dk_at dksX1_any_0 1 rfl rfl)
theorem dX1_any_4 : decode cX1_any 4 = .ok (.iload_n 1, 1) := dk_27 (dk_at dksX1_any_0 4 rfl rfl)
theorem dX1_any_5 : decode cX1_any 5 = .ok (.aload_n 0, 1) := dk_42 (dk_at dksX1_any_0 5 rfl rfl)
theorem dX1_any_6 : decode cX1_any 6 = .ok (.getfield 40, 3) := dk_180 0 40 (dk_at dksX1_any_0 6 rfl rfl)
theorem dX1_any_9 : decode cX1_any 9 = .ok (.invokevirtual 89, 3) := dk_182 0 89 (dk_at dksX1_any_0 9 rfl rfl)
theorem dX1_any_12 : decode cX1_any 12 = .ok (.if_icmp .lt 8, 3) := dk_161 0 8 (dk_at dksX1_any_0 12 rfl rfl)
theorem dX1_any_15 : decode cX1_any 15 = .ok (.aload_n 0, 1) := dk_42 (dk_at dksX1_any_0 15 rfl rfl)
theorem dX1_any_16 : decode cX1_any 16 = .ok (.invokevirtual 121, 3) := dk_182 0 121 (dk_at dksX1_any_0 16 rfl rfl)
theorem dX1_any_19 : decode cX1_any 19 = .ok (.athrow, 1) := dk_191 (dk_at dksX1_any_0 19 rfl rfl)
theorem dX1_any_20 : decode cX1_any 20 = .ok (.aload_n 0, 1) := dk_42 (dk_at dksX1_any_0 20 rfl rfl)
theorem dX1_any_21 : decode cX1_any 21 = .ok (.getfield 40, 3) := dk_180 0 40 (dk_at dksX1_any_0 21 rfl rfl)
theorem dX1_any_24 : decode cX1_any 24 = .ok (.iload_n 1, 1) := dk_27 (dk_at dksX1_any_1 0 rfl rfl)
theorem dX1_any_25 : decode cX1_any 25 = .ok (.invokevirtual 125, 3) := dk_182 0 125 (dk_at dksX1_any_1 1 rfl rfl)
theorem dX1_any_28 : decode cX1_any 28 = .ok (.checkcast 2, 3) := dk_192 0 2 (dk_at dksX1_any_1 4 rfl rfl)
theorem dX1_any_31 : decode cX1_any 31 = .ok (.areturn, 1) := dk_176 (dk_at dksX1_any_1 7 rfl rfl)
abbrev cX1_none : ByteArray := prog_1_method_9_code
def yX1_none : MethodName := ⟨RX1, "none", "()Ljava/util/NoSuchElementException;"⟩
def dkwX1_none_0 : List UInt8 := [42, 89, 180, 0, 64, 4, 96, 181, 0, 64, 187, 0, 70, 89, 183, 0, 72, 176]
abbrev dktX1_none_0 : List UInt8 := dkwX1_none_0 ++ []
theorem dksX1_none_0 : cX1_none.data.toList.drop 0 = dktX1_none_0 := by decide +kernel
theorem dX1_none_0 : decode cX1_none 0 = .ok (.aload_n 0, 1) := dk_42 (dk_at dksX1_none_0 0 rfl rfl)
theorem dX1_none_1 : decode cX1_none 1 = .ok (.dup, 1) := dk_89 (dk_at dksX1_none_0 1 rfl rfl)
theorem dX1_none_2 : decode cX1_none 2 = .ok (.getfield 64, 3) := dk_180 0 64 (dk_at dksX1_none_0 2 rfl rfl)
theorem dX1_none_5 : decode cX1_none 5 = .ok (.iconst 1, 1) := dk_4 (dk_at dksX1_none_0 5 rfl rfl)
theorem dX1_none_6 : decode cX1_none 6 = .ok (.iadd, 1) := dk_96 (dk_at dksX1_none_0 6 rfl rfl)
theorem dX1_none_7 : decode cX1_none 7 = .ok (.putfield 64, 3) := dk_181 0 64 (dk_at dksX1_none_0 7 rfl rfl)
theorem dX1_none_10 : decode cX1_none 10 = .ok (.new 70, 3) := dk_187 0 70 (dk_at dksX1_none_0 10 rfl rfl)
theorem dX1_none_13 : decode cX1_none 13 = .ok (.dup, 1) := dk_89 (dk_at dksX1_none_0 13 rfl rfl)
theorem dX1_none_14 : decode cX1_none 14 = .ok (.invokespecial 72, 3) := dk_183 0 72 (dk_at dksX1_none_0 14 rfl rfl)
theorem dX1_none_17 : decode cX1_none 17 = .ok (.areturn, 1) := dk_176 (dk_at dksX1_none_0 17 rfl rfl)
abbrev cX1_put : ByteArray := prog_1_method_19_code
def yX1_put : MethodName := ⟨RX1, "put", "(II)I"⟩
def dkwX1_put_4 : List UInt8 := [25, 6, 25, 5, 25, 4, 182, 0, 159, 42, 180, 0, 53, 3, 182, 0, 112, 25, 6, 180, 0, 154, 172]
abbrev dktX1_put_4 : List UInt8 := dkwX1_put_4 ++ []
def dkwX1_put_3 : List UInt8 := [180, 0, 154, 16, 10, 160, 0, 18, 25, 6, 25, 5, 182, 0, 155, 156, 0, 8, 42, 182, 0, 81, 191]
abbrev dktX1_put_3 : List UInt8 := dkwX1_put_3 ++ dktX1_put_4
def dkwX1_put_2 : List UInt8 := [154, 0, 11, 25, 5, 184, 0, 150, 154, 0, 8, 42, 182, 0, 76, 191, 45, 192, 0, 118, 58, 6, 25, 6]
abbrev dktX1_put_2 : List UInt8 := dkwX1_put_2 ++ dktX1_put_3
def dkwX1_put_1 : List UInt8 := [193, 0, 118, 153, 0, 31, 25, 4, 45, 42, 89, 180, 0, 136, 4, 96, 90, 181, 0, 136, 182, 0, 139]
abbrev dktX1_put_1 : List UInt8 := dkwX1_put_1 ++ dktX1_put_2
def dkwX1_put_0 : List UInt8 := [42, 27, 182, 0, 129, 78, 42, 28, 182, 0, 129, 58, 4, 42, 180, 0, 53, 182, 0, 105, 58, 5, 45]
abbrev dktX1_put_0 : List UInt8 := dkwX1_put_0 ++ dktX1_put_1
theorem dksX1_put_0 : cX1_put.data.toList.drop 0 = dktX1_put_0 := by decide +kernel
theorem dksX1_put_1 : cX1_put.data.toList.drop 23 = dktX1_put_1 := dk_seg dksX1_put_0 23 rfl rfl
theorem dksX1_put_2 : cX1_put.data.toList.drop 46 = dktX1_put_2 := dk_seg dksX1_put_1 23 rfl rfl
theorem dksX1_put_3 : cX1_put.data.toList.drop 70 = dktX1_put_3 := dk_seg dksX1_put_2 24 rfl rfl
theorem dksX1_put_4 : cX1_put.data.toList.drop 93 = dktX1_put_4 := dk_seg dksX1_put_3 23 rfl rfl
theorem dX1_put_0 : decode cX1_put 0 = .ok (.aload_n 0, 1) := dk_42 (dk_at dksX1_put_0 0 rfl rfl)
theorem dX1_put_1 : decode cX1_put 1 = .ok (.iload_n 1, 1) := dk_27 (dk_at dksX1_put_0 1 rfl rfl)
theorem dX1_put_2 : decode cX1_put 2 = .ok (.invokevirtual 129, 3) := dk_182 0 129 (dk_at dksX1_put_0 2 rfl rfl)
theorem dX1_put_5 : decode cX1_put 5 = .ok (.astore_n 3, 1) := dk_78 (dk_at dksX1_put_0 5 rfl rfl)
theorem dX1_put_6 : decode cX1_put 6 = .ok (.aload_n 0, 1) := dk_42 (dk_at dksX1_put_0 6 rfl rfl)
theorem dX1_put_7 : decode cX1_put 7 = .ok (.iload_n 2, 1) := dk_28 (dk_at dksX1_put_0 7 rfl rfl)
theorem dX1_put_8 : decode cX1_put 8 = .ok (.invokevirtual 129, 3) := dk_182 0 129 (dk_at dksX1_put_0 8 rfl rfl)
theorem dX1_put_11 : decode cX1_put 11 = .ok (.astore 4, 2) := dk_58 4 (dk_at dksX1_put_0 11 rfl rfl)
theorem dX1_put_13 : decode cX1_put 13 = .ok (.aload_n 0, 1) := dk_42 (dk_at dksX1_put_0 13 rfl rfl)
theorem dX1_put_14 : decode cX1_put 14 = .ok (.getfield 53, 3) := dk_180 0 53 (dk_at dksX1_put_0 14 rfl rfl)
theorem dX1_put_17 : decode cX1_put 17 = .ok (.invokevirtual 105, 3) := dk_182 0 105 (dk_at dksX1_put_0 17 rfl rfl)
theorem dX1_put_20 : decode cX1_put 20 = .ok (.astore 5, 2) := dk_58 5 (dk_at dksX1_put_0 20 rfl rfl)
theorem dX1_put_22 : decode cX1_put 22 = .ok (.aload_n 3, 1) := dk_45 (dk_at dksX1_put_0 22 rfl rfl)
theorem dX1_put_23 : decode cX1_put 23 = .ok (.instanceof 118, 3) := dk_193 0 118 (dk_at dksX1_put_1 0 rfl rfl)
theorem dX1_put_26 : decode cX1_put 26 = .ok (.ifCond .eq 31, 3) := dk_153 0 31 (dk_at dksX1_put_1 3 rfl rfl)
theorem dX1_put_29 : decode cX1_put 29 = .ok (.aload 4, 2) := dk_25 4 (dk_at dksX1_put_1 6 rfl rfl)
theorem dX1_put_31 : decode cX1_put 31 = .ok (.aload_n 3, 1) := dk_45 (dk_at dksX1_put_1 8 rfl rfl)
theorem dX1_put_32 : decode cX1_put 32 = .ok (.aload_n 0, 1) := dk_42 (dk_at dksX1_put_1 9 rfl rfl)
theorem dX1_put_33 : decode cX1_put 33 = .ok (.dup, 1) := dk_89 (dk_at dksX1_put_1 10 rfl rfl)
theorem dX1_put_34 : decode cX1_put 34 = .ok (.getfield 136, 3) := dk_180 0 136 (dk_at dksX1_put_1 11 rfl rfl)
theorem dX1_put_37 : decode cX1_put 37 = .ok (.iconst 1, 1) := dk_4 (dk_at dksX1_put_1 14 rfl rfl)
theorem dX1_put_38 : decode cX1_put 38 = .ok (.iadd, 1) := dk_96 (dk_at dksX1_put_1 15 rfl rfl)
theorem dX1_put_39 : decode cX1_put 39 = .ok (.dup_x1, 1) := dk_90 (dk_at dksX1_put_1 16 rfl rfl)
theorem dX1_put_40 : decode cX1_put 40 = .ok (.putfield 136, 3) := dk_181 0 136 (dk_at dksX1_put_1 17 rfl rfl)
theorem dX1_put_43 : decode cX1_put 43 = .ok (.invokevirtual 139, 3) := dk_182 0 139 (dk_at dksX1_put_1 20 rfl rfl)
theorem dX1_put_46 : decode cX1_put 46 = .ok (.ifCond .ne 11, 3) := dk_154 0 11 (dk_at dksX1_put_2 0 rfl rfl)
theorem dX1_put_49 : decode cX1_put 49 = .ok (.aload 5, 2) := dk_25 5 (dk_at dksX1_put_2 3 rfl rfl)
theorem dX1_put_51 : decode cX1_put 51 = .ok (.invokestatic 150, 3) := dk_184 0 150 (dk_at dksX1_put_2 5 rfl rfl)
theorem dX1_put_54 : decode cX1_put 54 = .ok (.ifCond .ne 8, 3) := dk_154 0 8 (dk_at dksX1_put_2 8 rfl rfl)
theorem dX1_put_57 : decode cX1_put 57 = .ok (.aload_n 0, 1) := dk_42 (dk_at dksX1_put_2 11 rfl rfl)
theorem dX1_put_58 : decode cX1_put 58 = .ok (.invokevirtual 76, 3) := dk_182 0 76 (dk_at dksX1_put_2 12 rfl rfl)
theorem dX1_put_61 : decode cX1_put 61 = .ok (.athrow, 1) := dk_191 (dk_at dksX1_put_2 15 rfl rfl)
theorem dX1_put_62 : decode cX1_put 62 = .ok (.aload_n 3, 1) := dk_45 (dk_at dksX1_put_2 16 rfl rfl)
theorem dX1_put_63 : decode cX1_put 63 = .ok (.checkcast 118, 3) := dk_192 0 118 (dk_at dksX1_put_2 17 rfl rfl)
theorem dX1_put_66 : decode cX1_put 66 = .ok (.astore 6, 2) := dk_58 6 (dk_at dksX1_put_2 20 rfl rfl)
theorem dX1_put_68 : decode cX1_put 68 = .ok (.aload 6, 2) := dk_25 6 (dk_at dksX1_put_2 22 rfl rfl)
theorem dX1_put_70 : decode cX1_put 70 = .ok (.getfield 154, 3) := dk_180 0 154 (dk_at dksX1_put_3 0 rfl rfl)
theorem dX1_put_73 : decode cX1_put 73 = .ok (.bipush 10, 2) := dk_16 10 (dk_at dksX1_put_3 3 rfl rfl)
theorem dX1_put_75 : decode cX1_put 75 = .ok (.if_icmp .ne 18, 3) := dk_160 0 18 (dk_at dksX1_put_3 5 rfl rfl)
theorem dX1_put_78 : decode cX1_put 78 = .ok (.aload 6, 2) := dk_25 6 (dk_at dksX1_put_3 8 rfl rfl)
theorem dX1_put_80 : decode cX1_put 80 = .ok (.aload 5, 2) := dk_25 5 (dk_at dksX1_put_3 10 rfl rfl)
theorem dX1_put_82 : decode cX1_put 82 = .ok (.invokevirtual 155, 3) := dk_182 0 155 (dk_at dksX1_put_3 12 rfl rfl)
theorem dX1_put_85 : decode cX1_put 85 = .ok (.ifCond .ge 8, 3) := dk_156 0 8 (dk_at dksX1_put_3 15 rfl rfl)
theorem dX1_put_88 : decode cX1_put 88 = .ok (.aload_n 0, 1) := dk_42 (dk_at dksX1_put_3 18 rfl rfl)
theorem dX1_put_89 : decode cX1_put 89 = .ok (.invokevirtual 81, 3) := dk_182 0 81 (dk_at dksX1_put_3 19 rfl rfl)
theorem dX1_put_92 : decode cX1_put 92 = .ok (.athrow, 1) := dk_191 (dk_at dksX1_put_3 22 rfl rfl)
theorem dX1_put_93 : decode cX1_put 93 = .ok (.aload 6, 2) := dk_25 6 (dk_at dksX1_put_4 0 rfl rfl)
theorem dX1_put_95 : decode cX1_put 95 = .ok (.aload 5, 2) := dk_25 5 (dk_at dksX1_put_4 2 rfl rfl)
theorem dX1_put_97 : decode cX1_put 97 = .ok (.aload 4, 2) := dk_25 4 (dk_at dksX1_put_4 4 rfl rfl)
theorem dX1_put_99 : decode cX1_put 99 = .ok (.invokevirtual 159, 3) := dk_182 0 159 (dk_at dksX1_put_4 6 rfl rfl)
theorem dX1_put_102 : decode cX1_put 102 = .ok (.aload_n 0, 1) := dk_42 (dk_at dksX1_put_4 9 rfl rfl)
theorem dX1_put_103 : decode cX1_put 103 = .ok (.getfield 53, 3) := dk_180 0 53 (dk_at dksX1_put_4 10 rfl rfl)
theorem dX1_put_106 : decode cX1_put 106 = .ok (.iconst 0, 1) := dk_3 (dk_at dksX1_put_4 13 rfl rfl)
theorem dX1_put_107 : decode cX1_put 107 = .ok (.invokevirtual 112, 3) := dk_182 0 112 (dk_at dksX1_put_4 14 rfl rfl)
theorem dX1_put_110 : decode cX1_put 110 = .ok (.aload 6, 2) := dk_25 6 (dk_at dksX1_put_4 17 rfl rfl)
theorem dX1_put_112 : decode cX1_put 112 = .ok (.getfield 154, 3) := dk_180 0 154 (dk_at dksX1_put_4 19 rfl rfl)
theorem dX1_put_115 : decode cX1_put 115 = .ok (.ireturn, 1) := dk_172 (dk_at dksX1_put_4 22 rfl rfl)
abbrev cX1_isName : ByteArray := prog_1_method_5_code
def yX1_isName : MethodName := ⟨RX1, "isName", "(Ljava/lang/String;)Z"⟩
def dkwX1_isName_2 : List UInt8 := [182, 0, 19, 16, 8, 163, 0, 7, 4, 167, 0, 4, 3, 172]
abbrev dktX1_isName_2 : List UInt8 := dkwX1_isName_2 ++ []
def dkwX1_isName_1 : List UInt8 := [182, 0, 25, 16, 122, 164, 0, 5, 3, 172, 132, 1, 1, 167, 255, 223, 42, 182, 0, 29, 154, 0, 16, 42]
abbrev dktX1_isName_1 : List UInt8 := dkwX1_isName_1 ++ dktX1_isName_2
def dkwX1_isName_0 : List UInt8 := [3, 60, 27, 42, 182, 0, 19, 162, 0, 31, 42, 27, 182, 0, 25, 16, 97, 161, 0, 13, 42, 27]
abbrev dktX1_isName_0 : List UInt8 := dkwX1_isName_0 ++ dktX1_isName_1
theorem dksX1_isName_0 : cX1_isName.data.toList.drop 0 = dktX1_isName_0 := by decide +kernel
theorem dksX1_isName_1 : cX1_isName.data.toList.drop 22 = dktX1_isName_1 := dk_seg dksX1_isName_0 22 rfl rfl
theorem dksX1_isName_2 : cX1_isName.data.toList.drop 46 = dktX1_isName_2 := dk_seg dksX1_isName_1 24 rfl rfl
theorem dX1_isName_0 : decode cX1_isName 0 = .ok (.iconst 0, 1) := dk_3 (dk_at dksX1_isName_0 0 rfl rfl)
theorem dX1_isName_1 : decode cX1_isName 1 = .ok (.istore_n 1, 1) := dk_60 (dk_at dksX1_isName_0 1 rfl rfl)
theorem dX1_isName_2 : decode cX1_isName 2 = .ok (.iload_n 1, 1) := dk_27 (dk_at dksX1_isName_0 2 rfl rfl)
theorem dX1_isName_3 : decode cX1_isName 3 = .ok (.aload_n 0, 1) := dk_42 (dk_at dksX1_isName_0 3 rfl rfl)
theorem dX1_isName_4 : decode cX1_isName 4 = .ok (.invokevirtual 19, 3) := dk_182 0 19 (dk_at dksX1_isName_0 4 rfl rfl)
theorem dX1_isName_7 : decode cX1_isName 7 = .ok (.if_icmp .ge 31, 3) := dk_162 0 31 (dk_at dksX1_isName_0 7 rfl rfl)
theorem dX1_isName_10 : decode cX1_isName 10 = .ok (.aload_n 0, 1) := dk_42 (dk_at dksX1_isName_0 10 rfl rfl)
theorem dX1_isName_11 : decode cX1_isName 11 = .ok (.iload_n 1, 1) := dk_27 (dk_at dksX1_isName_0 11 rfl rfl)
theorem dX1_isName_12 : decode cX1_isName 12 = .ok (.invokevirtual 25, 3) := dk_182 0 25 (dk_at dksX1_isName_0 12 rfl rfl)
theorem dX1_isName_15 : decode cX1_isName 15 = .ok (.bipush 97, 2) := dk_16 97 (dk_at dksX1_isName_0 15 rfl rfl)
theorem dX1_isName_17 : decode cX1_isName 17 = .ok (.if_icmp .lt 13, 3) := dk_161 0 13 (dk_at dksX1_isName_0 17 rfl rfl)
theorem dX1_isName_20 : decode cX1_isName 20 = .ok (.aload_n 0, 1) := dk_42 (dk_at dksX1_isName_0 20 rfl rfl)
theorem dX1_isName_21 : decode cX1_isName 21 = .ok (.iload_n 1, 1) := dk_27 (dk_at dksX1_isName_0 21 rfl rfl)
theorem dX1_isName_22 : decode cX1_isName 22 = .ok (.invokevirtual 25, 3) := dk_182 0 25 (dk_at dksX1_isName_1 0 rfl rfl)
theorem dX1_isName_25 : decode cX1_isName 25 = .ok (.bipush 122, 2) := dk_16 122 (dk_at dksX1_isName_1 3 rfl rfl)
theorem dX1_isName_27 : decode cX1_isName 27 = .ok (.if_icmp .le 5, 3) := dk_164 0 5 (dk_at dksX1_isName_1 5 rfl rfl)
theorem dX1_isName_30 : decode cX1_isName 30 = .ok (.iconst 0, 1) := dk_3 (dk_at dksX1_isName_1 8 rfl rfl)
theorem dX1_isName_31 : decode cX1_isName 31 = .ok (.ireturn, 1) := dk_172 (dk_at dksX1_isName_1 9 rfl rfl)
theorem dX1_isName_32 : decode cX1_isName 32 = .ok (.iinc 1 1, 3) := dk_132 1 1 (dk_at dksX1_isName_1 10 rfl rfl)
theorem dX1_isName_35 : decode cX1_isName 35 = .ok (.goto (-33), 3) := dk_167 255 223 (dk_at dksX1_isName_1 13 rfl rfl)
theorem dX1_isName_38 : decode cX1_isName 38 = .ok (.aload_n 0, 1) := dk_42 (dk_at dksX1_isName_1 16 rfl rfl)
theorem dX1_isName_39 : decode cX1_isName 39 = .ok (.invokevirtual 29, 3) := dk_182 0 29 (dk_at dksX1_isName_1 17 rfl rfl)
theorem dX1_isName_42 : decode cX1_isName 42 = .ok (.ifCond .ne 16, 3) := dk_154 0 16 (dk_at dksX1_isName_1 20 rfl rfl)
theorem dX1_isName_45 : decode cX1_isName 45 = .ok (.aload_n 0, 1) := dk_42 (dk_at dksX1_isName_1 23 rfl rfl)
theorem dX1_isName_46 : decode cX1_isName 46 = .ok (.invokevirtual 19, 3) := dk_182 0 19 (dk_at dksX1_isName_2 0 rfl rfl)
theorem dX1_isName_49 : decode cX1_isName 49 = .ok (.bipush 8, 2) := dk_16 8 (dk_at dksX1_isName_2 3 rfl rfl)
theorem dX1_isName_51 : decode cX1_isName 51 = .ok (.if_icmp .gt 7, 3) := dk_163 0 7 (dk_at dksX1_isName_2 5 rfl rfl)
theorem dX1_isName_54 : decode cX1_isName 54 = .ok (.iconst 1, 1) := dk_4 (dk_at dksX1_isName_2 8 rfl rfl)
theorem dX1_isName_55 : decode cX1_isName 55 = .ok (.goto 4, 3) := dk_167 0 4 (dk_at dksX1_isName_2 9 rfl rfl)
theorem dX1_isName_58 : decode cX1_isName 58 = .ok (.iconst 0, 1) := dk_3 (dk_at dksX1_isName_2 12 rfl rfl)
theorem dX1_isName_59 : decode cX1_isName 59 = .ok (.ireturn, 1) := dk_172 (dk_at dksX1_isName_2 13 rfl rfl)
abbrev cX1_compile : ByteArray := prog_1_method_21_code
def yX1_compile : MethodName := ⟨RX1, "compile", "(I)I"⟩
def dkwX1_compile_2 : List UInt8 := [2, 182, 0, 176, 83, 167, 0, 9, 78, 42, 182, 0, 76, 191, 44, 180, 0, 180, 172]
abbrev dktX1_compile_2 : List UInt8 := dkwX1_compile_2 ++ []
def dkwX1_compile_1 : List UInt8 := [183, 0, 173, 77, 42, 180, 0, 53, 3, 182, 0, 112, 42, 2, 181, 0, 7, 42, 180, 0, 46, 27, 44, 3]
abbrev dktX1_compile_1 : List UInt8 := dkwX1_compile_1 ++ dktX1_compile_2
def dkwX1_compile_0 : List UInt8 := [27, 184, 0, 163, 156, 0, 8, 42, 182, 0, 167, 191, 187, 0, 171, 89, 42, 42, 180, 0, 53, 182, 0, 105]
abbrev dktX1_compile_0 : List UInt8 := dkwX1_compile_0 ++ dktX1_compile_1
theorem dksX1_compile_0 : cX1_compile.data.toList.drop 0 = dktX1_compile_0 := by decide +kernel
theorem dksX1_compile_1 : cX1_compile.data.toList.drop 24 = dktX1_compile_1 := dk_seg dksX1_compile_0 24 rfl rfl
theorem dksX1_compile_2 : cX1_compile.data.toList.drop 48 = dktX1_compile_2 := dk_seg dksX1_compile_1 24 rfl rfl
theorem dX1_compile_0 : decode cX1_compile 0 = .ok (.iload_n 1, 1) := dk_27 (dk_at dksX1_compile_0 0 rfl rfl)
theorem dX1_compile_1 : decode cX1_compile 1 = .ok (.invokestatic 163, 3) := dk_184 0 163 (dk_at dksX1_compile_0 1 rfl rfl)
theorem dX1_compile_4 : decode cX1_compile 4 = .ok (.ifCond .ge 8, 3) := dk_156 0 8 (dk_at dksX1_compile_0 4 rfl rfl)
theorem dX1_compile_7 : decode cX1_compile 7 = .ok (.aload_n 0, 1) := dk_42 (dk_at dksX1_compile_0 7 rfl rfl)
theorem dX1_compile_8 : decode cX1_compile 8 = .ok (.invokevirtual 167, 3) := dk_182 0 167 (dk_at dksX1_compile_0 8 rfl rfl)
theorem dX1_compile_11 : decode cX1_compile 11 = .ok (.athrow, 1) := dk_191 (dk_at dksX1_compile_0 11 rfl rfl)
theorem dX1_compile_12 : decode cX1_compile 12 = .ok (.new 171, 3) := dk_187 0 171 (dk_at dksX1_compile_0 12 rfl rfl)
theorem dX1_compile_15 : decode cX1_compile 15 = .ok (.dup, 1) := dk_89 (dk_at dksX1_compile_0 15 rfl rfl)
theorem dX1_compile_16 : decode cX1_compile 16 = .ok (.aload_n 0, 1) := dk_42 (dk_at dksX1_compile_0 16 rfl rfl)
theorem dX1_compile_17 : decode cX1_compile 17 = .ok (.aload_n 0, 1) := dk_42 (dk_at dksX1_compile_0 17 rfl rfl)
theorem dX1_compile_18 : decode cX1_compile 18 = .ok (.getfield 53, 3) := dk_180 0 53 (dk_at dksX1_compile_0 18 rfl rfl)
theorem dX1_compile_21 : decode cX1_compile 21 = .ok (.invokevirtual 105, 3) := dk_182 0 105 (dk_at dksX1_compile_0 21 rfl rfl)
theorem dX1_compile_24 : decode cX1_compile 24 = .ok (.invokespecial 173, 3) := dk_183 0 173 (dk_at dksX1_compile_1 0 rfl rfl)
theorem dX1_compile_27 : decode cX1_compile 27 = .ok (.astore_n 2, 1) := dk_77 (dk_at dksX1_compile_1 3 rfl rfl)
theorem dX1_compile_28 : decode cX1_compile 28 = .ok (.aload_n 0, 1) := dk_42 (dk_at dksX1_compile_1 4 rfl rfl)
theorem dX1_compile_29 : decode cX1_compile 29 = .ok (.getfield 53, 3) := dk_180 0 53 (dk_at dksX1_compile_1 5 rfl rfl)
theorem dX1_compile_32 : decode cX1_compile 32 = .ok (.iconst 0, 1) := dk_3 (dk_at dksX1_compile_1 8 rfl rfl)
theorem dX1_compile_33 : decode cX1_compile 33 = .ok (.invokevirtual 112, 3) := dk_182 0 112 (dk_at dksX1_compile_1 9 rfl rfl)
theorem dX1_compile_36 : decode cX1_compile 36 = .ok (.aload_n 0, 1) := dk_42 (dk_at dksX1_compile_1 12 rfl rfl)
theorem dX1_compile_37 : decode cX1_compile 37 = .ok (.iconst (-1), 1) := dk_2 (dk_at dksX1_compile_1 13 rfl rfl)
theorem dX1_compile_38 : decode cX1_compile 38 = .ok (.putfield 7, 3) := dk_181 0 7 (dk_at dksX1_compile_1 14 rfl rfl)
theorem dX1_compile_41 : decode cX1_compile 41 = .ok (.aload_n 0, 1) := dk_42 (dk_at dksX1_compile_1 17 rfl rfl)
theorem dX1_compile_42 : decode cX1_compile 42 = .ok (.getfield 46, 3) := dk_180 0 46 (dk_at dksX1_compile_1 18 rfl rfl)
theorem dX1_compile_45 : decode cX1_compile 45 = .ok (.iload_n 1, 1) := dk_27 (dk_at dksX1_compile_1 21 rfl rfl)
theorem dX1_compile_46 : decode cX1_compile 46 = .ok (.aload_n 2, 1) := dk_44 (dk_at dksX1_compile_1 22 rfl rfl)
theorem dX1_compile_47 : decode cX1_compile 47 = .ok (.iconst 0, 1) := dk_3 (dk_at dksX1_compile_1 23 rfl rfl)
theorem dX1_compile_48 : decode cX1_compile 48 = .ok (.iconst (-1), 1) := dk_2 (dk_at dksX1_compile_2 0 rfl rfl)
theorem dX1_compile_49 : decode cX1_compile 49 = .ok (.invokevirtual 176, 3) := dk_182 0 176 (dk_at dksX1_compile_2 1 rfl rfl)
theorem dX1_compile_52 : decode cX1_compile 52 = .ok (.aastore, 1) := dk_83 (dk_at dksX1_compile_2 4 rfl rfl)
theorem dX1_compile_53 : decode cX1_compile 53 = .ok (.goto 9, 3) := dk_167 0 9 (dk_at dksX1_compile_2 5 rfl rfl)
theorem dX1_compile_56 : decode cX1_compile 56 = .ok (.astore_n 3, 1) := dk_78 (dk_at dksX1_compile_2 8 rfl rfl)
theorem dX1_compile_57 : decode cX1_compile 57 = .ok (.aload_n 0, 1) := dk_42 (dk_at dksX1_compile_2 9 rfl rfl)
theorem dX1_compile_58 : decode cX1_compile 58 = .ok (.invokevirtual 76, 3) := dk_182 0 76 (dk_at dksX1_compile_2 10 rfl rfl)
theorem dX1_compile_61 : decode cX1_compile 61 = .ok (.athrow, 1) := dk_191 (dk_at dksX1_compile_2 13 rfl rfl)
theorem dX1_compile_62 : decode cX1_compile 62 = .ok (.aload_n 2, 1) := dk_44 (dk_at dksX1_compile_2 14 rfl rfl)
theorem dX1_compile_63 : decode cX1_compile 63 = .ok (.getfield 180, 3) := dk_180 0 180 (dk_at dksX1_compile_2 15 rfl rfl)
theorem dX1_compile_66 : decode cX1_compile 66 = .ok (.ireturn, 1) := dk_172 (dk_at dksX1_compile_2 18 rfl rfl)
abbrev cX1_template : ByteArray := prog_1_method_20_code
def yX1_template : MethodName := ⟨RX1, "template", "(I)I"⟩
def dkwX1_template_0 : List UInt8 := [26, 155, 0, 12, 26, 7, 162, 0, 7, 26, 167, 0, 4, 2, 172]
abbrev dktX1_template_0 : List UInt8 := dkwX1_template_0 ++ []
theorem dksX1_template_0 : cX1_template.data.toList.drop 0 = dktX1_template_0 := by decide +kernel
theorem dX1_template_0 : decode cX1_template 0 = .ok (.iload_n 0, 1) := dk_26 (dk_at dksX1_template_0 0 rfl rfl)
theorem dX1_template_1 : decode cX1_template 1 = .ok (.ifCond .lt 12, 3) := dk_155 0 12 (dk_at dksX1_template_0 1 rfl rfl)
theorem dX1_template_4 : decode cX1_template 4 = .ok (.iload_n 0, 1) := dk_26 (dk_at dksX1_template_0 4 rfl rfl)
theorem dX1_template_5 : decode cX1_template 5 = .ok (.iconst 4, 1) := dk_7 (dk_at dksX1_template_0 5 rfl rfl)
theorem dX1_template_6 : decode cX1_template 6 = .ok (.if_icmp .ge 7, 3) := dk_162 0 7 (dk_at dksX1_template_0 6 rfl rfl)
theorem dX1_template_9 : decode cX1_template 9 = .ok (.iload_n 0, 1) := dk_26 (dk_at dksX1_template_0 9 rfl rfl)
theorem dX1_template_10 : decode cX1_template 10 = .ok (.goto 4, 3) := dk_167 0 4 (dk_at dksX1_template_0 10 rfl rfl)
theorem dX1_template_13 : decode cX1_template 13 = .ok (.iconst (-1), 1) := dk_2 (dk_at dksX1_template_0 13 rfl rfl)
theorem dX1_template_14 : decode cX1_template 14 = .ok (.ireturn, 1) := dk_172 (dk_at dksX1_template_0 14 rfl rfl)
abbrev cX1_outside : ByteArray := prog_1_method_10_code
def yX1_outside : MethodName := ⟨RX1, "outside", "()Ljava/lang/IndexOutOfBoundsException;"⟩
def dkwX1_outside_0 : List UInt8 := [42, 89, 180, 0, 64, 4, 96, 181, 0, 64, 187, 0, 73, 89, 183, 0, 75, 176]
abbrev dktX1_outside_0 : List UInt8 := dkwX1_outside_0 ++ []
theorem dksX1_outside_0 : cX1_outside.data.toList.drop 0 = dktX1_outside_0 := by decide +kernel
theorem dX1_outside_0 : decode cX1_outside 0 = .ok (.aload_n 0, 1) := dk_42 (dk_at dksX1_outside_0 0 rfl rfl)
theorem dX1_outside_1 : decode cX1_outside 1 = .ok (.dup, 1) := dk_89 (dk_at dksX1_outside_0 1 rfl rfl)
theorem dX1_outside_2 : decode cX1_outside 2 = .ok (.getfield 64, 3) := dk_180 0 64 (dk_at dksX1_outside_0 2 rfl rfl)
theorem dX1_outside_5 : decode cX1_outside 5 = .ok (.iconst 1, 1) := dk_4 (dk_at dksX1_outside_0 5 rfl rfl)
theorem dX1_outside_6 : decode cX1_outside 6 = .ok (.iadd, 1) := dk_96 (dk_at dksX1_outside_0 6 rfl rfl)
theorem dX1_outside_7 : decode cX1_outside 7 = .ok (.putfield 64, 3) := dk_181 0 64 (dk_at dksX1_outside_0 7 rfl rfl)
theorem dX1_outside_10 : decode cX1_outside 10 = .ok (.new 73, 3) := dk_187 0 73 (dk_at dksX1_outside_0 10 rfl rfl)
theorem dX1_outside_13 : decode cX1_outside 13 = .ok (.dup, 1) := dk_89 (dk_at dksX1_outside_0 13 rfl rfl)
theorem dX1_outside_14 : decode cX1_outside 14 = .ok (.invokespecial 75, 3) := dk_183 0 75 (dk_at dksX1_outside_0 14 rfl rfl)
theorem dX1_outside_17 : decode cX1_outside 17 = .ok (.areturn, 1) := dk_176 (dk_at dksX1_outside_0 17 rfl rfl)
abbrev cX1_starts : ByteArray := prog_1_method_4_code
def yX1_starts : MethodName := ⟨RX1, "starts", "(Ljava/lang/String;Ljava/lang/String;I)Z"⟩
def dkwX1_starts_2 : List UInt8 := [167, 255, 228, 4, 172]
abbrev dktX1_starts_2 : List UInt8 := dkwX1_starts_2 ++ []
def dkwX1_starts_1 : List UInt8 := [162, 0, 26, 42, 28, 29, 96, 182, 0, 25, 43, 29, 182, 0, 25, 159, 0, 5, 3, 172, 132, 3, 1]
abbrev dktX1_starts_1 : List UInt8 := dkwX1_starts_1 ++ dktX1_starts_2
def dkwX1_starts_0 : List UInt8 := [28, 43, 182, 0, 19, 96, 42, 182, 0, 19, 164, 0, 5, 3, 172, 3, 62, 29, 43, 182, 0, 19]
abbrev dktX1_starts_0 : List UInt8 := dkwX1_starts_0 ++ dktX1_starts_1
theorem dksX1_starts_0 : cX1_starts.data.toList.drop 0 = dktX1_starts_0 := by decide +kernel
theorem dksX1_starts_1 : cX1_starts.data.toList.drop 22 = dktX1_starts_1 := dk_seg dksX1_starts_0 22 rfl rfl
theorem dksX1_starts_2 : cX1_starts.data.toList.drop 45 = dktX1_starts_2 := dk_seg dksX1_starts_1 23 rfl rfl
theorem dX1_starts_0 : decode cX1_starts 0 = .ok (.iload_n 2, 1) := dk_28 (dk_at dksX1_starts_0 0 rfl rfl)
theorem dX1_starts_1 : decode cX1_starts 1 = .ok (.aload_n 1, 1) := dk_43 (dk_at dksX1_starts_0 1 rfl rfl)
theorem dX1_starts_2 : decode cX1_starts 2 = .ok (.invokevirtual 19, 3) := dk_182 0 19 (dk_at dksX1_starts_0 2 rfl rfl)
theorem dX1_starts_5 : decode cX1_starts 5 = .ok (.iadd, 1) := dk_96 (dk_at dksX1_starts_0 5 rfl rfl)
theorem dX1_starts_6 : decode cX1_starts 6 = .ok (.aload_n 0, 1) := dk_42 (dk_at dksX1_starts_0 6 rfl rfl)
theorem dX1_starts_7 : decode cX1_starts 7 = .ok (.invokevirtual 19, 3) := dk_182 0 19 (dk_at dksX1_starts_0 7 rfl rfl)
theorem dX1_starts_10 : decode cX1_starts 10 = .ok (.if_icmp .le 5, 3) := dk_164 0 5 (dk_at dksX1_starts_0 10 rfl rfl)
theorem dX1_starts_13 : decode cX1_starts 13 = .ok (.iconst 0, 1) := dk_3 (dk_at dksX1_starts_0 13 rfl rfl)
theorem dX1_starts_14 : decode cX1_starts 14 = .ok (.ireturn, 1) := dk_172 (dk_at dksX1_starts_0 14 rfl rfl)
theorem dX1_starts_15 : decode cX1_starts 15 = .ok (.iconst 0, 1) := dk_3 (dk_at dksX1_starts_0 15 rfl rfl)
theorem dX1_starts_16 : decode cX1_starts 16 = .ok (.istore_n 3, 1) := dk_62 (dk_at dksX1_starts_0 16 rfl rfl)
theorem dX1_starts_17 : decode cX1_starts 17 = .ok (.iload_n 3, 1) := dk_29 (dk_at dksX1_starts_0 17 rfl rfl)
theorem dX1_starts_18 : decode cX1_starts 18 = .ok (.aload_n 1, 1) := dk_43 (dk_at dksX1_starts_0 18 rfl rfl)
theorem dX1_starts_19 : decode cX1_starts 19 = .ok (.invokevirtual 19, 3) := dk_182 0 19 (dk_at dksX1_starts_0 19 rfl rfl)
theorem dX1_starts_22 : decode cX1_starts 22 = .ok (.if_icmp .ge 26, 3) := dk_162 0 26 (dk_at dksX1_starts_1 0 rfl rfl)
theorem dX1_starts_25 : decode cX1_starts 25 = .ok (.aload_n 0, 1) := dk_42 (dk_at dksX1_starts_1 3 rfl rfl)
theorem dX1_starts_26 : decode cX1_starts 26 = .ok (.iload_n 2, 1) := dk_28 (dk_at dksX1_starts_1 4 rfl rfl)
theorem dX1_starts_27 : decode cX1_starts 27 = .ok (.iload_n 3, 1) := dk_29 (dk_at dksX1_starts_1 5 rfl rfl)
theorem dX1_starts_28 : decode cX1_starts 28 = .ok (.iadd, 1) := dk_96 (dk_at dksX1_starts_1 6 rfl rfl)
theorem dX1_starts_29 : decode cX1_starts 29 = .ok (.invokevirtual 25, 3) := dk_182 0 25 (dk_at dksX1_starts_1 7 rfl rfl)
theorem dX1_starts_32 : decode cX1_starts 32 = .ok (.aload_n 1, 1) := dk_43 (dk_at dksX1_starts_1 10 rfl rfl)
theorem dX1_starts_33 : decode cX1_starts 33 = .ok (.iload_n 3, 1) := dk_29 (dk_at dksX1_starts_1 11 rfl rfl)
theorem dX1_starts_34 : decode cX1_starts 34 = .ok (.invokevirtual 25, 3) := dk_182 0 25 (dk_at dksX1_starts_1 12 rfl rfl)
theorem dX1_starts_37 : decode cX1_starts 37 = .ok (.if_icmp .eq 5, 3) := dk_159 0 5 (dk_at dksX1_starts_1 15 rfl rfl)
theorem dX1_starts_40 : decode cX1_starts 40 = .ok (.iconst 0, 1) := dk_3 (dk_at dksX1_starts_1 18 rfl rfl)
theorem dX1_starts_41 : decode cX1_starts 41 = .ok (.ireturn, 1) := dk_172 (dk_at dksX1_starts_1 19 rfl rfl)
theorem dX1_starts_42 : decode cX1_starts 42 = .ok (.iinc 3 1, 3) := dk_132 3 1 (dk_at dksX1_starts_1 20 rfl rfl)
theorem dX1_starts_45 : decode cX1_starts 45 = .ok (.goto (-28), 3) := dk_167 255 228 (dk_at dksX1_starts_2 0 rfl rfl)
theorem dX1_starts_48 : decode cX1_starts 48 = .ok (.iconst 1, 1) := dk_4 (dk_at dksX1_starts_2 3 rfl rfl)
theorem dX1_starts_49 : decode cX1_starts 49 = .ok (.ireturn, 1) := dk_172 (dk_at dksX1_starts_2 4 rfl rfl)
abbrev cX1_faultAt : ByteArray := prog_1_method_3_code
def yX1_faultAt : MethodName := ⟨RX1, "faultAt", "(LTemplateEngine;I)Ljava/lang/IllegalArgumentException;"⟩
def dkwX1_faultAt_0 : List UInt8 := [42, 27, 181, 0, 7, 187, 0, 13, 89, 183, 0, 15, 176]
abbrev dktX1_faultAt_0 : List UInt8 := dkwX1_faultAt_0 ++ []
theorem dksX1_faultAt_0 : cX1_faultAt.data.toList.drop 0 = dktX1_faultAt_0 := by decide +kernel
theorem dX1_faultAt_0 : decode cX1_faultAt 0 = .ok (.aload_n 0, 1) := dk_42 (dk_at dksX1_faultAt_0 0 rfl rfl)
theorem dX1_faultAt_1 : decode cX1_faultAt 1 = .ok (.iload_n 1, 1) := dk_27 (dk_at dksX1_faultAt_0 1 rfl rfl)
theorem dX1_faultAt_2 : decode cX1_faultAt 2 = .ok (.putfield 7, 3) := dk_181 0 7 (dk_at dksX1_faultAt_0 2 rfl rfl)
theorem dX1_faultAt_5 : decode cX1_faultAt 5 = .ok (.new 13, 3) := dk_187 0 13 (dk_at dksX1_faultAt_0 5 rfl rfl)
theorem dX1_faultAt_8 : decode cX1_faultAt 8 = .ok (.dup, 1) := dk_89 (dk_at dksX1_faultAt_0 8 rfl rfl)
theorem dX1_faultAt_9 : decode cX1_faultAt 9 = .ok (.invokespecial 15, 3) := dk_183 0 15 (dk_at dksX1_faultAt_0 9 rfl rfl)
theorem dX1_faultAt_12 : decode cX1_faultAt 12 = .ok (.areturn, 1) := dk_176 (dk_at dksX1_faultAt_0 12 rfl rfl)
abbrev cX1_render : ByteArray := prog_1_method_24_code
def yX1_render : MethodName := ⟨RX1, "render", "(II)I"⟩
def dkwX1_render_2 : List UInt8 := [45, 180, 0, 206, 181, 0, 207, 42, 180, 0, 60, 182, 0, 208, 172]
abbrev dktX1_render_2 : List UInt8 := dkwX1_render_2 ++ []
def dkwX1_render_1 : List UInt8 := [182, 0, 121, 191, 42, 27, 42, 28, 182, 0, 129, 182, 0, 199, 78, 42, 45, 180, 0, 203, 181, 0, 60, 42]
abbrev dktX1_render_1 : List UInt8 := dkwX1_render_1 ++ dktX1_render_2
def dkwX1_render_0 : List UInt8 := [27, 184, 0, 163, 156, 0, 8, 42, 182, 0, 167, 191, 42, 180, 0, 46, 27, 50, 199, 0, 8, 42]
abbrev dktX1_render_0 : List UInt8 := dkwX1_render_0 ++ dktX1_render_1
theorem dksX1_render_0 : cX1_render.data.toList.drop 0 = dktX1_render_0 := by decide +kernel
theorem dksX1_render_1 : cX1_render.data.toList.drop 22 = dktX1_render_1 := dk_seg dksX1_render_0 22 rfl rfl
theorem dksX1_render_2 : cX1_render.data.toList.drop 46 = dktX1_render_2 := dk_seg dksX1_render_1 24 rfl rfl
theorem dX1_render_0 : decode cX1_render 0 = .ok (.iload_n 1, 1) := dk_27 (dk_at dksX1_render_0 0 rfl rfl)
theorem dX1_render_1 : decode cX1_render 1 = .ok (.invokestatic 163, 3) := dk_184 0 163 (dk_at dksX1_render_0 1 rfl rfl)
theorem dX1_render_4 : decode cX1_render 4 = .ok (.ifCond .ge 8, 3) := dk_156 0 8 (dk_at dksX1_render_0 4 rfl rfl)
theorem dX1_render_7 : decode cX1_render 7 = .ok (.aload_n 0, 1) := dk_42 (dk_at dksX1_render_0 7 rfl rfl)
theorem dX1_render_8 : decode cX1_render 8 = .ok (.invokevirtual 167, 3) := dk_182 0 167 (dk_at dksX1_render_0 8 rfl rfl)
theorem dX1_render_11 : decode cX1_render 11 = .ok (.athrow, 1) := dk_191 (dk_at dksX1_render_0 11 rfl rfl)
theorem dX1_render_12 : decode cX1_render 12 = .ok (.aload_n 0, 1) := dk_42 (dk_at dksX1_render_0 12 rfl rfl)
theorem dX1_render_13 : decode cX1_render 13 = .ok (.getfield 46, 3) := dk_180 0 46 (dk_at dksX1_render_0 13 rfl rfl)
theorem dX1_render_16 : decode cX1_render 16 = .ok (.iload_n 1, 1) := dk_27 (dk_at dksX1_render_0 16 rfl rfl)
theorem dX1_render_17 : decode cX1_render 17 = .ok (.aaload, 1) := dk_50 (dk_at dksX1_render_0 17 rfl rfl)
theorem dX1_render_18 : decode cX1_render 18 = .ok (.ifnonnull 8, 3) := dk_199 0 8 (dk_at dksX1_render_0 18 rfl rfl)
theorem dX1_render_21 : decode cX1_render 21 = .ok (.aload_n 0, 1) := dk_42 (dk_at dksX1_render_0 21 rfl rfl)
theorem dX1_render_22 : decode cX1_render 22 = .ok (.invokevirtual 121, 3) := dk_182 0 121 (dk_at dksX1_render_1 0 rfl rfl)
theorem dX1_render_25 : decode cX1_render 25 = .ok (.athrow, 1) := dk_191 (dk_at dksX1_render_1 3 rfl rfl)
theorem dX1_render_26 : decode cX1_render 26 = .ok (.aload_n 0, 1) := dk_42 (dk_at dksX1_render_1 4 rfl rfl)
theorem dX1_render_27 : decode cX1_render 27 = .ok (.iload_n 1, 1) := dk_27 (dk_at dksX1_render_1 5 rfl rfl)
theorem dX1_render_28 : decode cX1_render 28 = .ok (.aload_n 0, 1) := dk_42 (dk_at dksX1_render_1 6 rfl rfl)
theorem dX1_render_29 : decode cX1_render 29 = .ok (.iload_n 2, 1) := dk_28 (dk_at dksX1_render_1 7 rfl rfl)
theorem dX1_render_30 : decode cX1_render 30 = .ok (.invokevirtual 129, 3) := dk_182 0 129 (dk_at dksX1_render_1 8 rfl rfl)
theorem dX1_render_33 : decode cX1_render 33 = .ok (.invokevirtual 199, 3) := dk_182 0 199 (dk_at dksX1_render_1 11 rfl rfl)
theorem dX1_render_36 : decode cX1_render 36 = .ok (.astore_n 3, 1) := dk_78 (dk_at dksX1_render_1 14 rfl rfl)
theorem dX1_render_37 : decode cX1_render 37 = .ok (.aload_n 0, 1) := dk_42 (dk_at dksX1_render_1 15 rfl rfl)
theorem dX1_render_38 : decode cX1_render 38 = .ok (.aload_n 3, 1) := dk_45 (dk_at dksX1_render_1 16 rfl rfl)
theorem dX1_render_39 : decode cX1_render 39 = .ok (.getfield 203, 3) := dk_180 0 203 (dk_at dksX1_render_1 17 rfl rfl)
theorem dX1_render_42 : decode cX1_render 42 = .ok (.putfield 60, 3) := dk_181 0 60 (dk_at dksX1_render_1 20 rfl rfl)
theorem dX1_render_45 : decode cX1_render 45 = .ok (.aload_n 0, 1) := dk_42 (dk_at dksX1_render_1 23 rfl rfl)
theorem dX1_render_46 : decode cX1_render 46 = .ok (.aload_n 3, 1) := dk_45 (dk_at dksX1_render_2 0 rfl rfl)
theorem dX1_render_47 : decode cX1_render 47 = .ok (.getfield 206, 3) := dk_180 0 206 (dk_at dksX1_render_2 1 rfl rfl)
theorem dX1_render_50 : decode cX1_render 50 = .ok (.putfield 207, 3) := dk_181 0 207 (dk_at dksX1_render_2 4 rfl rfl)
theorem dX1_render_53 : decode cX1_render 53 = .ok (.aload_n 0, 1) := dk_42 (dk_at dksX1_render_2 7 rfl rfl)
theorem dX1_render_54 : decode cX1_render 54 = .ok (.getfield 60, 3) := dk_180 0 60 (dk_at dksX1_render_2 8 rfl rfl)
theorem dX1_render_57 : decode cX1_render 57 = .ok (.invokevirtual 208, 3) := dk_182 0 208 (dk_at dksX1_render_2 11 rfl rfl)
theorem dX1_render_60 : decode cX1_render 60 = .ok (.ireturn, 1) := dk_172 (dk_at dksX1_render_2 14 rfl rfl)
abbrev cX1_run : ByteArray := prog_1_method_23_code
def yX1_run : MethodName := ⟨RX1, "run", "(ILTemplateEngine$Data;)LTemplateEngine$Rendering;"⟩
def dkwX1_run_2 : List UInt8 := [187, 0, 196, 89, 183, 0, 198, 191, 58, 4, 42, 182, 0, 81, 191, 45, 176]
abbrev dktX1_run_2 : List UInt8 := dkwX1_run_2 ++ []
def dkwX1_run_1 : List UInt8 := [167, 0, 37, 58, 4, 42, 182, 0, 121, 191, 58, 4, 42, 89, 180, 0, 64, 4, 96, 181, 0, 64]
abbrev dktX1_run_1 : List UInt8 := dkwX1_run_1 ++ dktX1_run_2
def dkwX1_run_0 : List UInt8 := [187, 0, 183, 89, 42, 183, 0, 185, 78, 45, 27, 187, 0, 188, 89, 44, 1, 183, 0, 190, 182, 0, 193]
abbrev dktX1_run_0 : List UInt8 := dkwX1_run_0 ++ dktX1_run_1
theorem dksX1_run_0 : cX1_run.data.toList.drop 0 = dktX1_run_0 := by decide +kernel
theorem dksX1_run_1 : cX1_run.data.toList.drop 23 = dktX1_run_1 := dk_seg dksX1_run_0 23 rfl rfl
theorem dksX1_run_2 : cX1_run.data.toList.drop 45 = dktX1_run_2 := dk_seg dksX1_run_1 22 rfl rfl
theorem dX1_run_0 : decode cX1_run 0 = .ok (.new 183, 3) := dk_187 0 183 (dk_at dksX1_run_0 0 rfl rfl)
theorem dX1_run_3 : decode cX1_run 3 = .ok (.dup, 1) := dk_89 (dk_at dksX1_run_0 3 rfl rfl)
theorem dX1_run_4 : decode cX1_run 4 = .ok (.aload_n 0, 1) := dk_42 (dk_at dksX1_run_0 4 rfl rfl)
theorem dX1_run_5 : decode cX1_run 5 = .ok (.invokespecial 185, 3) := dk_183 0 185 (dk_at dksX1_run_0 5 rfl rfl)
theorem dX1_run_8 : decode cX1_run 8 = .ok (.astore_n 3, 1) := dk_78 (dk_at dksX1_run_0 8 rfl rfl)
theorem dX1_run_9 : decode cX1_run 9 = .ok (.aload_n 3, 1) := dk_45 (dk_at dksX1_run_0 9 rfl rfl)
theorem dX1_run_10 : decode cX1_run 10 = .ok (.iload_n 1, 1) := dk_27 (dk_at dksX1_run_0 10 rfl rfl)
theorem dX1_run_11 : decode cX1_run 11 = .ok (.new 188, 3) := dk_187 0 188 (dk_at dksX1_run_0 11 rfl rfl)
theorem dX1_run_14 : decode cX1_run 14 = .ok (.dup, 1) := dk_89 (dk_at dksX1_run_0 14 rfl rfl)
theorem dX1_run_15 : decode cX1_run 15 = .ok (.aload_n 2, 1) := dk_44 (dk_at dksX1_run_0 15 rfl rfl)
theorem dX1_run_16 : decode cX1_run 16 = .ok (.aconst_null, 1) := dk_1 (dk_at dksX1_run_0 16 rfl rfl)
theorem dX1_run_17 : decode cX1_run 17 = .ok (.invokespecial 190, 3) := dk_183 0 190 (dk_at dksX1_run_0 17 rfl rfl)
theorem dX1_run_20 : decode cX1_run 20 = .ok (.invokevirtual 193, 3) := dk_182 0 193 (dk_at dksX1_run_0 20 rfl rfl)
theorem dX1_run_23 : decode cX1_run 23 = .ok (.goto 37, 3) := dk_167 0 37 (dk_at dksX1_run_1 0 rfl rfl)
theorem dX1_run_26 : decode cX1_run 26 = .ok (.astore 4, 2) := dk_58 4 (dk_at dksX1_run_1 3 rfl rfl)
theorem dX1_run_28 : decode cX1_run 28 = .ok (.aload_n 0, 1) := dk_42 (dk_at dksX1_run_1 5 rfl rfl)
theorem dX1_run_29 : decode cX1_run 29 = .ok (.invokevirtual 121, 3) := dk_182 0 121 (dk_at dksX1_run_1 6 rfl rfl)
theorem dX1_run_32 : decode cX1_run 32 = .ok (.athrow, 1) := dk_191 (dk_at dksX1_run_1 9 rfl rfl)
theorem dX1_run_33 : decode cX1_run 33 = .ok (.astore 4, 2) := dk_58 4 (dk_at dksX1_run_1 10 rfl rfl)
theorem dX1_run_35 : decode cX1_run 35 = .ok (.aload_n 0, 1) := dk_42 (dk_at dksX1_run_1 12 rfl rfl)
theorem dX1_run_36 : decode cX1_run 36 = .ok (.dup, 1) := dk_89 (dk_at dksX1_run_1 13 rfl rfl)
theorem dX1_run_37 : decode cX1_run 37 = .ok (.getfield 64, 3) := dk_180 0 64 (dk_at dksX1_run_1 14 rfl rfl)
theorem dX1_run_40 : decode cX1_run 40 = .ok (.iconst 1, 1) := dk_4 (dk_at dksX1_run_1 17 rfl rfl)
theorem dX1_run_41 : decode cX1_run 41 = .ok (.iadd, 1) := dk_96 (dk_at dksX1_run_1 18 rfl rfl)
theorem dX1_run_42 : decode cX1_run 42 = .ok (.putfield 64, 3) := dk_181 0 64 (dk_at dksX1_run_1 19 rfl rfl)
theorem dX1_run_45 : decode cX1_run 45 = .ok (.new 196, 3) := dk_187 0 196 (dk_at dksX1_run_2 0 rfl rfl)
theorem dX1_run_48 : decode cX1_run 48 = .ok (.dup, 1) := dk_89 (dk_at dksX1_run_2 3 rfl rfl)
theorem dX1_run_49 : decode cX1_run 49 = .ok (.invokespecial 198, 3) := dk_183 0 198 (dk_at dksX1_run_2 4 rfl rfl)
theorem dX1_run_52 : decode cX1_run 52 = .ok (.athrow, 1) := dk_191 (dk_at dksX1_run_2 7 rfl rfl)
theorem dX1_run_53 : decode cX1_run 53 = .ok (.astore 4, 2) := dk_58 4 (dk_at dksX1_run_2 8 rfl rfl)
theorem dX1_run_55 : decode cX1_run 55 = .ok (.aload_n 0, 1) := dk_42 (dk_at dksX1_run_2 10 rfl rfl)
theorem dX1_run_56 : decode cX1_run 56 = .ok (.invokevirtual 81, 3) := dk_182 0 81 (dk_at dksX1_run_2 11 rfl rfl)
theorem dX1_run_59 : decode cX1_run 59 = .ok (.athrow, 1) := dk_191 (dk_at dksX1_run_2 14 rfl rfl)
theorem dX1_run_60 : decode cX1_run 60 = .ok (.aload_n 3, 1) := dk_45 (dk_at dksX1_run_2 15 rfl rfl)
theorem dX1_run_61 : decode cX1_run 61 = .ok (.areturn, 1) := dk_176 (dk_at dksX1_run_2 16 rfl rfl)
abbrev cX1_digits : ByteArray := prog_1_method_1_code
def yX1_digits : MethodName := ⟨RX1, "digits", "(I)I"⟩
def dkwX1_digits_1 : List UInt8 := [16, 10, 108, 61, 167, 255, 244, 27, 172]
abbrev dktX1_digits_1 : List UInt8 := dkwX1_digits_1 ++ []
def dkwX1_digits_0 : List UInt8 := [26, 156, 0, 7, 5, 167, 0, 4, 4, 60, 26, 16, 10, 108, 61, 28, 153, 0, 14, 132, 1, 1, 28]
abbrev dktX1_digits_0 : List UInt8 := dkwX1_digits_0 ++ dktX1_digits_1
theorem dksX1_digits_0 : cX1_digits.data.toList.drop 0 = dktX1_digits_0 := by decide +kernel
theorem dksX1_digits_1 : cX1_digits.data.toList.drop 23 = dktX1_digits_1 := dk_seg dksX1_digits_0 23 rfl rfl
theorem dX1_digits_0 : decode cX1_digits 0 = .ok (.iload_n 0, 1) := dk_26 (dk_at dksX1_digits_0 0 rfl rfl)
theorem dX1_digits_1 : decode cX1_digits 1 = .ok (.ifCond .ge 7, 3) := dk_156 0 7 (dk_at dksX1_digits_0 1 rfl rfl)
theorem dX1_digits_4 : decode cX1_digits 4 = .ok (.iconst 2, 1) := dk_5 (dk_at dksX1_digits_0 4 rfl rfl)
theorem dX1_digits_5 : decode cX1_digits 5 = .ok (.goto 4, 3) := dk_167 0 4 (dk_at dksX1_digits_0 5 rfl rfl)
theorem dX1_digits_8 : decode cX1_digits 8 = .ok (.iconst 1, 1) := dk_4 (dk_at dksX1_digits_0 8 rfl rfl)
theorem dX1_digits_9 : decode cX1_digits 9 = .ok (.istore_n 1, 1) := dk_60 (dk_at dksX1_digits_0 9 rfl rfl)
theorem dX1_digits_10 : decode cX1_digits 10 = .ok (.iload_n 0, 1) := dk_26 (dk_at dksX1_digits_0 10 rfl rfl)
theorem dX1_digits_11 : decode cX1_digits 11 = .ok (.bipush 10, 2) := dk_16 10 (dk_at dksX1_digits_0 11 rfl rfl)
theorem dX1_digits_13 : decode cX1_digits 13 = .ok (.idiv, 1) := dk_108 (dk_at dksX1_digits_0 13 rfl rfl)
theorem dX1_digits_14 : decode cX1_digits 14 = .ok (.istore_n 2, 1) := dk_61 (dk_at dksX1_digits_0 14 rfl rfl)
theorem dX1_digits_15 : decode cX1_digits 15 = .ok (.iload_n 2, 1) := dk_28 (dk_at dksX1_digits_0 15 rfl rfl)
theorem dX1_digits_16 : decode cX1_digits 16 = .ok (.ifCond .eq 14, 3) := dk_153 0 14 (dk_at dksX1_digits_0 16 rfl rfl)
theorem dX1_digits_19 : decode cX1_digits 19 = .ok (.iinc 1 1, 3) := dk_132 1 1 (dk_at dksX1_digits_0 19 rfl rfl)
theorem dX1_digits_22 : decode cX1_digits 22 = .ok (.iload_n 2, 1) := dk_28 (dk_at dksX1_digits_0 22 rfl rfl)
theorem dX1_digits_23 : decode cX1_digits 23 = .ok (.bipush 10, 2) := dk_16 10 (dk_at dksX1_digits_1 0 rfl rfl)
theorem dX1_digits_25 : decode cX1_digits 25 = .ok (.idiv, 1) := dk_108 (dk_at dksX1_digits_1 2 rfl rfl)
theorem dX1_digits_26 : decode cX1_digits 26 = .ok (.istore_n 2, 1) := dk_61 (dk_at dksX1_digits_1 3 rfl rfl)
theorem dX1_digits_27 : decode cX1_digits 27 = .ok (.goto (-12), 3) := dk_167 255 244 (dk_at dksX1_digits_1 4 rfl rfl)
theorem dX1_digits_30 : decode cX1_digits 30 = .ok (.iload_n 1, 1) := dk_27 (dk_at dksX1_digits_1 7 rfl rfl)
theorem dX1_digits_31 : decode cX1_digits 31 = .ok (.ireturn, 1) := dk_172 (dk_at dksX1_digits_1 8 rfl rfl)
abbrev cX1_isFalse : ByteArray := prog_1_method_2_code
def yX1_isFalse : MethodName := ⟨RX1, "isFalse", "(LTemplateEngine$Data;)Z"⟩
def dkwX1_isFalse_0 : List UInt8 := [42, 198, 0, 10, 42, 182, 0, 1, 153, 0, 7, 4, 167, 0, 4, 3, 172]
abbrev dktX1_isFalse_0 : List UInt8 := dkwX1_isFalse_0 ++ []
theorem dksX1_isFalse_0 : cX1_isFalse.data.toList.drop 0 = dktX1_isFalse_0 := by decide +kernel
theorem dX1_isFalse_0 : decode cX1_isFalse 0 = .ok (.aload_n 0, 1) := dk_42 (dk_at dksX1_isFalse_0 0 rfl rfl)
theorem dX1_isFalse_1 : decode cX1_isFalse 1 = .ok (.ifnull 10, 3) := dk_198 0 10 (dk_at dksX1_isFalse_0 1 rfl rfl)
theorem dX1_isFalse_4 : decode cX1_isFalse 4 = .ok (.aload_n 0, 1) := dk_42 (dk_at dksX1_isFalse_0 4 rfl rfl)
theorem dX1_isFalse_5 : decode cX1_isFalse 5 = .ok (.invokevirtual 1, 3) := dk_182 0 1 (dk_at dksX1_isFalse_0 5 rfl rfl)
theorem dX1_isFalse_8 : decode cX1_isFalse 8 = .ok (.ifCond .eq 7, 3) := dk_153 0 7 (dk_at dksX1_isFalse_0 8 rfl rfl)
theorem dX1_isFalse_11 : decode cX1_isFalse 11 = .ok (.iconst 1, 1) := dk_4 (dk_at dksX1_isFalse_0 11 rfl rfl)
theorem dX1_isFalse_12 : decode cX1_isFalse 12 = .ok (.goto 4, 3) := dk_167 0 4 (dk_at dksX1_isFalse_0 12 rfl rfl)
theorem dX1_isFalse_15 : decode cX1_isFalse 15 = .ok (.iconst 0, 1) := dk_3 (dk_at dksX1_isFalse_0 15 rfl rfl)
theorem dX1_isFalse_16 : decode cX1_isFalse 16 = .ok (.ireturn, 1) := dk_172 (dk_at dksX1_isFalse_0 16 rfl rfl)
abbrev cX1_at : ByteArray := prog_1_method_25_code
def yX1_at : MethodName := ⟨RX1, "at", "(I)I"⟩
def dkwX1_at_1 : List UInt8 := [27, 182, 0, 209, 172]
abbrev dktX1_at_1 : List UInt8 := dkwX1_at_1 ++ []
def dkwX1_at_0 : List UInt8 := [27, 155, 0, 14, 27, 42, 180, 0, 60, 182, 0, 208, 161, 0, 8, 42, 182, 0, 167, 191, 42, 180, 0, 60]
abbrev dktX1_at_0 : List UInt8 := dkwX1_at_0 ++ dktX1_at_1
theorem dksX1_at_0 : cX1_at.data.toList.drop 0 = dktX1_at_0 := by decide +kernel
theorem dksX1_at_1 : cX1_at.data.toList.drop 24 = dktX1_at_1 := dk_seg dksX1_at_0 24 rfl rfl
theorem dX1_at_0 : decode cX1_at 0 = .ok (.iload_n 1, 1) := dk_27 (dk_at dksX1_at_0 0 rfl rfl)
theorem dX1_at_1 : decode cX1_at 1 = .ok (.ifCond .lt 14, 3) := dk_155 0 14 (dk_at dksX1_at_0 1 rfl rfl)
theorem dX1_at_4 : decode cX1_at 4 = .ok (.iload_n 1, 1) := dk_27 (dk_at dksX1_at_0 4 rfl rfl)
theorem dX1_at_5 : decode cX1_at 5 = .ok (.aload_n 0, 1) := dk_42 (dk_at dksX1_at_0 5 rfl rfl)
theorem dX1_at_6 : decode cX1_at 6 = .ok (.getfield 60, 3) := dk_180 0 60 (dk_at dksX1_at_0 6 rfl rfl)
theorem dX1_at_9 : decode cX1_at 9 = .ok (.invokevirtual 208, 3) := dk_182 0 208 (dk_at dksX1_at_0 9 rfl rfl)
theorem dX1_at_12 : decode cX1_at 12 = .ok (.if_icmp .lt 8, 3) := dk_161 0 8 (dk_at dksX1_at_0 12 rfl rfl)
theorem dX1_at_15 : decode cX1_at 15 = .ok (.aload_n 0, 1) := dk_42 (dk_at dksX1_at_0 15 rfl rfl)
theorem dX1_at_16 : decode cX1_at 16 = .ok (.invokevirtual 167, 3) := dk_182 0 167 (dk_at dksX1_at_0 16 rfl rfl)
theorem dX1_at_19 : decode cX1_at 19 = .ok (.athrow, 1) := dk_191 (dk_at dksX1_at_0 19 rfl rfl)
theorem dX1_at_20 : decode cX1_at 20 = .ok (.aload_n 0, 1) := dk_42 (dk_at dksX1_at_0 20 rfl rfl)
theorem dX1_at_21 : decode cX1_at 21 = .ok (.getfield 60, 3) := dk_180 0 60 (dk_at dksX1_at_0 21 rfl rfl)
theorem dX1_at_24 : decode cX1_at 24 = .ok (.iload_n 1, 1) := dk_27 (dk_at dksX1_at_1 0 rfl rfl)
theorem dX1_at_25 : decode cX1_at 25 = .ok (.invokevirtual 209, 3) := dk_182 0 209 (dk_at dksX1_at_1 1 rfl rfl)
theorem dX1_at_28 : decode cX1_at 28 = .ok (.ireturn, 1) := dk_172 (dk_at dksX1_at_1 4 rfl rfl)
abbrev cX1_kind : ByteArray := prog_1_method_26_code
def yX1_kind : MethodName := ⟨RX1, "kind", "(I)I"⟩
def dkwX1_kind_0 : List UInt8 := [42, 27, 182, 0, 129, 182, 0, 133, 172]
abbrev dktX1_kind_0 : List UInt8 := dkwX1_kind_0 ++ []
theorem dksX1_kind_0 : cX1_kind.data.toList.drop 0 = dktX1_kind_0 := by decide +kernel
theorem dX1_kind_0 : decode cX1_kind 0 = .ok (.aload_n 0, 1) := dk_42 (dk_at dksX1_kind_0 0 rfl rfl)
theorem dX1_kind_1 : decode cX1_kind 1 = .ok (.iload_n 1, 1) := dk_27 (dk_at dksX1_kind_0 1 rfl rfl)
theorem dX1_kind_2 : decode cX1_kind 2 = .ok (.invokevirtual 129, 3) := dk_182 0 129 (dk_at dksX1_kind_0 2 rfl rfl)
theorem dX1_kind_5 : decode cX1_kind 5 = .ok (.invokevirtual 133, 3) := dk_182 0 133 (dk_at dksX1_kind_0 5 rfl rfl)
theorem dX1_kind_8 : decode cX1_kind 8 = .ok (.ireturn, 1) := dk_172 (dk_at dksX1_kind_0 8 rfl rfl)
abbrev cX1_size : ByteArray := prog_1_method_27_code
def yX1_size : MethodName := ⟨RX1, "size", "(I)I"⟩
def dkwX1_size_0 : List UInt8 := [42, 27, 182, 0, 129, 182, 0, 212, 172]
abbrev dktX1_size_0 : List UInt8 := dkwX1_size_0 ++ []
theorem dksX1_size_0 : cX1_size.data.toList.drop 0 = dktX1_size_0 := by decide +kernel
theorem dX1_size_0 : decode cX1_size 0 = .ok (.aload_n 0, 1) := dk_42 (dk_at dksX1_size_0 0 rfl rfl)
theorem dX1_size_1 : decode cX1_size 1 = .ok (.iload_n 1, 1) := dk_27 (dk_at dksX1_size_0 1 rfl rfl)
theorem dX1_size_2 : decode cX1_size 2 = .ok (.invokevirtual 129, 3) := dk_182 0 129 (dk_at dksX1_size_0 2 rfl rfl)
theorem dX1_size_5 : decode cX1_size 5 = .ok (.invokevirtual 212, 3) := dk_182 0 212 (dk_at dksX1_size_0 5 rfl rfl)
theorem dX1_size_8 : decode cX1_size 8 = .ok (.ireturn, 1) := dk_172 (dk_at dksX1_size_0 8 rfl rfl)
theorem q72 : (Jvm.Cond.initialized "TemplateEngine") ∈ lw_all := lw_g (lw_at lw_m1 1 rfl) rfl
theorem q121 : (Jvm.Cond.instantiable "TemplateEngine" (8 : Nat)) ∈ lw_all := lw_g (lw_at lw_m1 50 rfl) rfl
theorem q123 : (Jvm.Cond.instanceMethod ({ cls := "TemplateEngine", name := "<init>", desc := "()V" } : Jvm.MethodName)) ∈ lw_all := lw_g (lw_at lw_m1 52 rfl) rfl
theorem q124 : (Jvm.Cond.code ({ cls := "TemplateEngine", name := "<init>", desc := "()V" } : Jvm.MethodName) prog_1_method_6_code (1 : Nat) (Option.none : Option Jvm.ClassFile.FieldType)) ∈ lw_all := lw_g (lw_at lw_m1 53 rfl) rfl
theorem q125 : (Jvm.Cond.methodLink "TemplateEngine" (32 : Nat) ({ cls := "java/lang/Object", name := "<init>", desc := "()V" } : Jvm.MethodName)) ∈ lw_all := lw_g (lw_at lw_m1 54 rfl) rfl
theorem q128 : (Jvm.Cond.classLink "TemplateEngine" (35 : Nat) "java/util/ArrayList") ∈ lw_all := lw_g (lw_at lw_m1 57 rfl) rfl
theorem q130 : (Jvm.Cond.methodLink "TemplateEngine" (37 : Nat) ({ cls := "java/util/ArrayList", name := "<init>", desc := "(I)V" } : Jvm.MethodName)) ∈ lw_all := lw_g (lw_at lw_m1 59 rfl) rfl
theorem q475 : (Jvm.Cond.classLink "TemplateEngine" (44 : Nat) "[LTemplateEngine$Part;") ∈ lw_all := lw_g (lw_at lw_m2 164 rfl) rfl
theorem q478 : (Jvm.Cond.classLink "TemplateEngine" (50 : Nat) "java/lang/StringBuilder") ∈ lw_all := lw_g (lw_at lw_m2 167 rfl) rfl
theorem q479 : (Jvm.Cond.methodLink "TemplateEngine" (52 : Nat) ({ cls := "java/lang/StringBuilder", name := "<init>", desc := "(I)V" } : Jvm.MethodName)) ∈ lw_all := lw_g (lw_at lw_m2 168 rfl) rfl
theorem q482 : (Jvm.Cond.classLink "TemplateEngine" (57 : Nat) "TemplateEngine$Output") ∈ lw_all := lw_g (lw_at lw_m2 171 rfl) rfl
theorem q484 : (Jvm.Cond.methodLinkNest "TemplateEngine" (59 : Nat) ({ cls := "TemplateEngine$Output", name := "<init>", desc := "()V" } : Jvm.MethodName) "TemplateEngine") ∈ lw_tbl := lw_at lw_m2 173 rfl
theorem q494 : (Jvm.Cond.fieldLink "TemplateEngine" (40 : Nat) "TemplateEngine" "data" "Ljava/util/ArrayList;") ∈ lw_all := lw_g (lw_at lw_m2 183 rfl) rfl
theorem q496 : (Jvm.Cond.fieldLink "TemplateEngine" (46 : Nat) "TemplateEngine" "templates" "[[LTemplateEngine$Part;") ∈ lw_all := lw_g (lw_at lw_m2 185 rfl) rfl
theorem q497 : (Jvm.Cond.fieldLink "TemplateEngine" (53 : Nat) "TemplateEngine" "line" "Ljava/lang/StringBuilder;") ∈ lw_all := lw_g (lw_at lw_m2 186 rfl) rfl
theorem q498 : (Jvm.Cond.fieldLink "TemplateEngine" (60 : Nat) "TemplateEngine" "rendered" "LTemplateEngine$Output;") ∈ lw_all := lw_g (lw_at lw_m2 187 rfl) rfl
theorem q499 : (Jvm.Cond.fieldLink "TemplateEngine" (7 : Nat) "TemplateEngine" "errorAt" "I") ∈ lw_all := lw_g (lw_at lw_m2 188 rfl) rfl
theorem q500 : (Jvm.Cond.fieldLink "TemplateEngine" (207 : Nat) "TemplateEngine" "tags" "I") ∈ lw_all := lw_g (lw_at lw_m2 189 rfl) rfl
theorem q501 : (Jvm.Cond.fieldLink "TemplateEngine" (64 : Nat) "TemplateEngine" "thrown" "I") ∈ lw_all := lw_g (lw_at lw_m2 190 rfl) rfl
theorem q502 : (Jvm.Cond.fieldLink "TemplateEngine" (136 : Nat) "TemplateEngine" "searches" "I") ∈ lw_all := lw_g (lw_at lw_m2 191 rfl) rfl
theorem q503 : (Jvm.Cond.laysFinal "TemplateEngine" "TemplateEngine" "data" "Ljava/util/ArrayList;") ∈ lw_all := lw_g (lw_at lw_m2 192 rfl) rfl
theorem q504 : (Jvm.Cond.soleField "TemplateEngine" "data") ∈ lw_all := lw_g (lw_at lw_m2 193 rfl) rfl
theorem q505 : (Jvm.Cond.laysFinal "TemplateEngine" "TemplateEngine" "templates" "[[LTemplateEngine$Part;") ∈ lw_all := lw_g (lw_at lw_m2 194 rfl) rfl
theorem q506 : (Jvm.Cond.soleField "TemplateEngine" "templates") ∈ lw_all := lw_g (lw_at lw_m2 195 rfl) rfl
theorem q507 : (Jvm.Cond.laysFinal "TemplateEngine" "TemplateEngine" "line" "Ljava/lang/StringBuilder;") ∈ lw_all := lw_g (lw_at lw_m2 196 rfl) rfl
theorem q508 : (Jvm.Cond.soleField "TemplateEngine" "line") ∈ lw_all := lw_g (lw_at lw_m2 197 rfl) rfl
theorem q509 : (Jvm.Cond.lays "TemplateEngine" "TemplateEngine" "rendered" "LTemplateEngine$Output;") ∈ lw_all := lw_g (lw_at lw_m2 198 rfl) rfl
theorem q510 : (Jvm.Cond.soleField "TemplateEngine" "rendered") ∈ lw_all := lw_g (lw_at lw_m2 199 rfl) rfl
theorem q511 : (Jvm.Cond.lays "TemplateEngine" "TemplateEngine" "errorAt" "I") ∈ lw_all := lw_g (lw_at lw_m2 200 rfl) rfl
theorem q512 : (Jvm.Cond.soleField "TemplateEngine" "errorAt") ∈ lw_all := lw_g (lw_at lw_m2 201 rfl) rfl
theorem q513 : (Jvm.Cond.lays "TemplateEngine" "TemplateEngine" "tags" "I") ∈ lw_all := lw_g (lw_at lw_m2 202 rfl) rfl
theorem q514 : (Jvm.Cond.soleField "TemplateEngine" "tags") ∈ lw_all := lw_g (lw_at lw_m2 203 rfl) rfl
theorem q515 : (Jvm.Cond.lays "TemplateEngine" "TemplateEngine" "thrown" "I") ∈ lw_all := lw_g (lw_at lw_m2 204 rfl) rfl
theorem q516 : (Jvm.Cond.soleField "TemplateEngine" "thrown") ∈ lw_all := lw_g (lw_at lw_m2 205 rfl) rfl
theorem q517 : (Jvm.Cond.lays "TemplateEngine" "TemplateEngine" "searches" "I") ∈ lw_all := lw_g (lw_at lw_m2 206 rfl) rfl
theorem q518 : (Jvm.Cond.soleField "TemplateEngine" "searches") ∈ lw_all := lw_g (lw_at lw_m2 207 rfl) rfl
theorem q519 : (Jvm.Cond.superclass "TemplateEngine" "java/lang/Object") ∈ lw_all := lw_g (lw_at lw_m2 208 rfl) rfl
theorem q521 : (Jvm.Cond.instanceMethod ({ cls := "TemplateEngine", name := "errorAt", desc := "()I" } : Jvm.MethodName)) ∈ lw_all := lw_g (lw_at lw_m2 210 rfl) rfl
theorem q522 : (Jvm.Cond.selects "TemplateEngine" ({ cls := "TemplateEngine", name := "errorAt", desc := "()I" } : Jvm.MethodName) ({ cls := "TemplateEngine", name := "errorAt", desc := "()I" } : Jvm.MethodName)) ∈ lw_all := lw_g (lw_at lw_m2 211 rfl) rfl
theorem q523 : (Jvm.Cond.code ({ cls := "TemplateEngine", name := "errorAt", desc := "()I" } : Jvm.MethodName) prog_1_method_22_code (1 : Nat) (Option.some Jvm.ClassFile.FieldType.int)) ∈ lw_all := lw_g (lw_at lw_m2 212 rfl) rfl
theorem q525 : (Jvm.Cond.instanceMethod ({ cls := "TemplateEngine", name := "count", desc := "(I)I" } : Jvm.MethodName)) ∈ lw_all := lw_g (lw_at lw_m2 214 rfl) rfl
theorem q526 : (Jvm.Cond.selects "TemplateEngine" ({ cls := "TemplateEngine", name := "count", desc := "(I)I" } : Jvm.MethodName) ({ cls := "TemplateEngine", name := "count", desc := "(I)I" } : Jvm.MethodName)) ∈ lw_all := lw_g (lw_at lw_m2 215 rfl) rfl
theorem q527 : (Jvm.Cond.code ({ cls := "TemplateEngine", name := "count", desc := "(I)I" } : Jvm.MethodName) prog_1_method_28_code (4 : Nat) (Option.some Jvm.ClassFile.FieldType.int)) ∈ lw_all := lw_g (lw_at lw_m2 216 rfl) rfl
theorem q528 : (Jvm.Cond.methodLink "TemplateEngine" (89 : Nat) ({ cls := "java/util/ArrayList", name := "size", desc := "()I" } : Jvm.MethodName)) ∈ lw_all := lw_g (lw_at lw_m2 217 rfl) rfl
theorem q532 : (Jvm.Cond.methodLink "TemplateEngine" (80 : Nat) ({ cls := "java/lang/StringBuilder", name := "length", desc := "()I" } : Jvm.MethodName)) ∈ lw_all := lw_g (lw_at lw_m2 221 rfl) rfl
theorem q533 : (Jvm.Cond.methodLink "TemplateEngine" (208 : Nat) ({ cls := "TemplateEngine$Output", name := "length", desc := "()I" } : Jvm.MethodName)) ∈ lw_all := lw_g (lw_at lw_m2 222 rfl) rfl
theorem q544 : (Jvm.Cond.instanceMethod ({ cls := "TemplateEngine", name := "type", desc := "(I)I" } : Jvm.MethodName)) ∈ lw_all := lw_g (lw_at lw_m2 233 rfl) rfl
theorem q545 : (Jvm.Cond.selects "TemplateEngine" ({ cls := "TemplateEngine", name := "type", desc := "(I)I" } : Jvm.MethodName) ({ cls := "TemplateEngine", name := "type", desc := "(I)I" } : Jvm.MethodName)) ∈ lw_all := lw_g (lw_at lw_m2 234 rfl) rfl
theorem q546 : (Jvm.Cond.code ({ cls := "TemplateEngine", name := "type", desc := "(I)I" } : Jvm.MethodName) prog_1_method_11_code (2 : Nat) (Option.some Jvm.ClassFile.FieldType.int)) ∈ lw_all := lw_g (lw_at lw_m2 235 rfl) rfl
theorem q547 : (Jvm.Cond.methodLink "TemplateEngine" (76 : Nat) ({ cls := "TemplateEngine", name := "badArgument", desc := "()Ljava/lang/IllegalArgumentException;" } : Jvm.MethodName)) ∈ lw_all := lw_g (lw_at lw_m2 236 rfl) rfl
theorem q548 : (Jvm.Cond.privateMethod ({ cls := "TemplateEngine", name := "badArgument", desc := "()Ljava/lang/IllegalArgumentException;" } : Jvm.MethodName)) ∈ lw_tbl := lw_at lw_m2 237 rfl
theorem q549 : (Jvm.Cond.instanceMethod ({ cls := "TemplateEngine", name := "badArgument", desc := "()Ljava/lang/IllegalArgumentException;" } : Jvm.MethodName)) ∈ lw_all := lw_g (lw_at lw_m2 238 rfl) rfl
theorem q550 : (Jvm.Cond.code ({ cls := "TemplateEngine", name := "badArgument", desc := "()Ljava/lang/IllegalArgumentException;" } : Jvm.MethodName) prog_1_method_7_code (1 : Nat) (Option.some (Jvm.ClassFile.FieldType.object "java/lang/IllegalArgumentException"))) ∈ lw_all := lw_g (lw_at lw_m2 239 rfl) rfl
theorem q551 : (Jvm.Cond.classLink "TemplateEngine" (13 : Nat) "java/lang/IllegalArgumentException") ∈ lw_all := lw_g (lw_at lw_m3 0 rfl) rfl
theorem q552 : (Jvm.Cond.methodLink "TemplateEngine" (15 : Nat) ({ cls := "java/lang/IllegalArgumentException", name := "<init>", desc := "()V" } : Jvm.MethodName)) ∈ lw_all := lw_g (lw_at lw_m3 1 rfl) rfl
theorem q562 : (Jvm.Cond.methodLink "TemplateEngine" (81 : Nat) ({ cls := "TemplateEngine", name := "badState", desc := "()Ljava/lang/IllegalStateException;" } : Jvm.MethodName)) ∈ lw_all := lw_g (lw_at lw_m3 11 rfl) rfl
theorem q563 : (Jvm.Cond.privateMethod ({ cls := "TemplateEngine", name := "badState", desc := "()Ljava/lang/IllegalStateException;" } : Jvm.MethodName)) ∈ lw_tbl := lw_at lw_m3 12 rfl
theorem q564 : (Jvm.Cond.instanceMethod ({ cls := "TemplateEngine", name := "badState", desc := "()Ljava/lang/IllegalStateException;" } : Jvm.MethodName)) ∈ lw_all := lw_g (lw_at lw_m3 13 rfl) rfl
theorem q565 : (Jvm.Cond.code ({ cls := "TemplateEngine", name := "badState", desc := "()Ljava/lang/IllegalStateException;" } : Jvm.MethodName) prog_1_method_8_code (1 : Nat) (Option.some (Jvm.ClassFile.FieldType.object "java/lang/IllegalStateException"))) ∈ lw_all := lw_g (lw_at lw_m3 14 rfl) rfl
theorem q566 : (Jvm.Cond.classLink "TemplateEngine" (67 : Nat) "java/lang/IllegalStateException") ∈ lw_all := lw_g (lw_at lw_m3 15 rfl) rfl
theorem q575 : (Jvm.Cond.methodLink "TemplateEngine" (69 : Nat) ({ cls := "java/lang/IllegalStateException", name := "<init>", desc := "()V" } : Jvm.MethodName)) ∈ lw_all := lw_g (lw_at lw_m3 24 rfl) rfl
theorem q581 : (Jvm.Cond.methodLink "TemplateEngine" (85 : Nat) ({ cls := "java/lang/StringBuilder", name := "append", desc := "(C)Ljava/lang/StringBuilder;" } : Jvm.MethodName)) ∈ lw_all := lw_g (lw_at lw_m3 30 rfl) rfl
theorem q607 : (Jvm.Cond.instanceMethod ({ cls := "TemplateEngine", name := "number", desc := "(I)I" } : Jvm.MethodName)) ∈ lw_all := lw_g (lw_at lw_m3 56 rfl) rfl
theorem q608 : (Jvm.Cond.selects "TemplateEngine" ({ cls := "TemplateEngine", name := "number", desc := "(I)I" } : Jvm.MethodName) ({ cls := "TemplateEngine", name := "number", desc := "(I)I" } : Jvm.MethodName)) ∈ lw_all := lw_g (lw_at lw_m3 57 rfl) rfl
theorem q609 : (Jvm.Cond.code ({ cls := "TemplateEngine", name := "number", desc := "(I)I" } : Jvm.MethodName) prog_1_method_13_code (2 : Nat) (Option.some Jvm.ClassFile.FieldType.int)) ∈ lw_all := lw_g (lw_at lw_m3 58 rfl) rfl
theorem q610 : (Jvm.Cond.classLink "TemplateEngine" (96 : Nat) "TemplateEngine$NumberData") ∈ lw_all := lw_g (lw_at lw_m3 59 rfl) rfl
theorem q612 : (Jvm.Cond.methodLink "TemplateEngine" (98 : Nat) ({ cls := "TemplateEngine$NumberData", name := "<init>", desc := "(I)V" } : Jvm.MethodName)) ∈ lw_all := lw_g (lw_at lw_m3 61 rfl) rfl
theorem q627 : (Jvm.Cond.methodLink "TemplateEngine" (99 : Nat) ({ cls := "TemplateEngine", name := "make", desc := "(LTemplateEngine$Data;)I" } : Jvm.MethodName)) ∈ lw_all := lw_g (lw_at lw_m3 76 rfl) rfl
theorem q628 : (Jvm.Cond.privateMethod ({ cls := "TemplateEngine", name := "make", desc := "(LTemplateEngine$Data;)I" } : Jvm.MethodName)) ∈ lw_tbl := lw_at lw_m3 77 rfl
theorem q629 : (Jvm.Cond.instanceMethod ({ cls := "TemplateEngine", name := "make", desc := "(LTemplateEngine$Data;)I" } : Jvm.MethodName)) ∈ lw_all := lw_g (lw_at lw_m3 78 rfl) rfl
theorem q630 : (Jvm.Cond.code ({ cls := "TemplateEngine", name := "make", desc := "(LTemplateEngine$Data;)I" } : Jvm.MethodName) prog_1_method_12_code (2 : Nat) (Option.some Jvm.ClassFile.FieldType.int)) ∈ lw_all := lw_g (lw_at lw_m3 79 rfl) rfl
theorem q631 : (Jvm.Cond.methodLink "TemplateEngine" (92 : Nat) ({ cls := "java/util/ArrayList", name := "add", desc := "(Ljava/lang/Object;)Z" } : Jvm.MethodName)) ∈ lw_all := lw_g (lw_at lw_m3 80 rfl) rfl
theorem q656 : (Jvm.Cond.selects "TemplateEngine" ({ cls := "java/lang/Object", name := "getClass", desc := "()Ljava/lang/Class;" } : Jvm.MethodName) ({ cls := "java/lang/Object", name := "getClass", desc := "()Ljava/lang/Class;" } : Jvm.MethodName)) ∈ lw_all := lw_g (lw_at lw_m3 105 rfl) rfl
theorem q698 : (Jvm.Cond.instanceMethod ({ cls := "TemplateEngine", name := "text", desc := "()I" } : Jvm.MethodName)) ∈ lw_all := lw_g (lw_at lw_m3 147 rfl) rfl
theorem q699 : (Jvm.Cond.selects "TemplateEngine" ({ cls := "TemplateEngine", name := "text", desc := "()I" } : Jvm.MethodName) ({ cls := "TemplateEngine", name := "text", desc := "()I" } : Jvm.MethodName)) ∈ lw_all := lw_g (lw_at lw_m3 148 rfl) rfl
theorem q700 : (Jvm.Cond.code ({ cls := "TemplateEngine", name := "text", desc := "()I" } : Jvm.MethodName) prog_1_method_14_code (2 : Nat) (Option.some Jvm.ClassFile.FieldType.int)) ∈ lw_all := lw_g (lw_at lw_m3 149 rfl) rfl
theorem q701 : (Jvm.Cond.classLink "TemplateEngine" (103 : Nat) "TemplateEngine$TextData") ∈ lw_all := lw_g (lw_at lw_m3 150 rfl) rfl
theorem q703 : (Jvm.Cond.methodLink "TemplateEngine" (105 : Nat) ({ cls := "java/lang/StringBuilder", name := "toString", desc := "()Ljava/lang/String;" } : Jvm.MethodName)) ∈ lw_all := lw_g (lw_at lw_m3 152 rfl) rfl
theorem q704 : (Jvm.Cond.methodLink "TemplateEngine" (109 : Nat) ({ cls := "TemplateEngine$TextData", name := "<init>", desc := "(Ljava/lang/String;)V" } : Jvm.MethodName)) ∈ lw_all := lw_g (lw_at lw_m3 153 rfl) rfl
theorem q716 : (Jvm.Cond.methodLink "TemplateEngine" (112 : Nat) ({ cls := "java/lang/StringBuilder", name := "setLength", desc := "(I)V" } : Jvm.MethodName)) ∈ lw_all := lw_g (lw_at lw_m3 165 rfl) rfl
theorem q788 : (Jvm.Cond.instanceMethod ({ cls := "TemplateEngine", name := "list", desc := "()I" } : Jvm.MethodName)) ∈ lw_all := lw_g (lw_at lw_m3 237 rfl) rfl
theorem q789 : (Jvm.Cond.selects "TemplateEngine" ({ cls := "TemplateEngine", name := "list", desc := "()I" } : Jvm.MethodName) ({ cls := "TemplateEngine", name := "list", desc := "()I" } : Jvm.MethodName)) ∈ lw_all := lw_g (lw_at lw_m3 238 rfl) rfl
theorem q790 : (Jvm.Cond.code ({ cls := "TemplateEngine", name := "list", desc := "()I" } : Jvm.MethodName) prog_1_method_15_code (1 : Nat) (Option.some Jvm.ClassFile.FieldType.int)) ∈ lw_all := lw_g (lw_at lw_m3 239 rfl) rfl
theorem q791 : (Jvm.Cond.classLink "TemplateEngine" (115 : Nat) "TemplateEngine$ListData") ∈ lw_all := lw_g (lw_at lw_m4 0 rfl) rfl
theorem q793 : (Jvm.Cond.methodLinkNest "TemplateEngine" (117 : Nat) ({ cls := "TemplateEngine$ListData", name := "<init>", desc := "()V" } : Jvm.MethodName) "TemplateEngine") ∈ lw_tbl := lw_at lw_m4 2 rfl
theorem q802 : (Jvm.Cond.fieldLink "TemplateEngine" (146 : Nat) "TemplateEngine$ListData" "elements" "[LTemplateEngine$Data;") ∈ lw_all := lw_g (lw_at lw_m4 11 rfl) rfl
theorem q806 : (Jvm.Cond.fieldLink "TemplateEngine" (143 : Nat) "TemplateEngine$ListData" "count" "I") ∈ lw_all := lw_g (lw_at lw_m4 15 rfl) rfl
theorem q807 : (Jvm.Cond.fieldLink "TemplateEngine" (154 : Nat) "TemplateEngine$MapData" "count" "I") ∈ lw_all := lw_g (lw_at lw_m4 16 rfl) rfl
theorem q818 : (Jvm.Cond.instanceMethod ({ cls := "TemplateEngine", name := "map", desc := "()I" } : Jvm.MethodName)) ∈ lw_all := lw_g (lw_at lw_m4 27 rfl) rfl
theorem q819 : (Jvm.Cond.selects "TemplateEngine" ({ cls := "TemplateEngine", name := "map", desc := "()I" } : Jvm.MethodName) ({ cls := "TemplateEngine", name := "map", desc := "()I" } : Jvm.MethodName)) ∈ lw_all := lw_g (lw_at lw_m4 28 rfl) rfl
theorem q820 : (Jvm.Cond.code ({ cls := "TemplateEngine", name := "map", desc := "()I" } : Jvm.MethodName) prog_1_method_16_code (1 : Nat) (Option.some Jvm.ClassFile.FieldType.int)) ∈ lw_all := lw_g (lw_at lw_m4 29 rfl) rfl
theorem q821 : (Jvm.Cond.classLink "TemplateEngine" (118 : Nat) "TemplateEngine$MapData") ∈ lw_all := lw_g (lw_at lw_m4 30 rfl) rfl
theorem q823 : (Jvm.Cond.methodLinkNest "TemplateEngine" (120 : Nat) ({ cls := "TemplateEngine$MapData", name := "<init>", desc := "()V" } : Jvm.MethodName) "TemplateEngine") ∈ lw_tbl := lw_at lw_m4 32 rfl
theorem q841 : (Jvm.Cond.instanceMethod ({ cls := "TemplateEngine", name := "add", desc := "(II)I" } : Jvm.MethodName)) ∈ lw_all := lw_g (lw_at lw_m4 50 rfl) rfl
theorem q842 : (Jvm.Cond.selects "TemplateEngine" ({ cls := "TemplateEngine", name := "add", desc := "(II)I" } : Jvm.MethodName) ({ cls := "TemplateEngine", name := "add", desc := "(II)I" } : Jvm.MethodName)) ∈ lw_all := lw_g (lw_at lw_m4 51 rfl) rfl
theorem q843 : (Jvm.Cond.code ({ cls := "TemplateEngine", name := "add", desc := "(II)I" } : Jvm.MethodName) prog_1_method_18_code (6 : Nat) (Option.some Jvm.ClassFile.FieldType.int)) ∈ lw_all := lw_g (lw_at lw_m4 52 rfl) rfl
theorem q844 : (Jvm.Cond.methodLink "TemplateEngine" (129 : Nat) ({ cls := "TemplateEngine", name := "any", desc := "(I)LTemplateEngine$Data;" } : Jvm.MethodName)) ∈ lw_all := lw_g (lw_at lw_m4 53 rfl) rfl
theorem q845 : (Jvm.Cond.privateMethod ({ cls := "TemplateEngine", name := "any", desc := "(I)LTemplateEngine$Data;" } : Jvm.MethodName)) ∈ lw_tbl := lw_at lw_m4 54 rfl
theorem q846 : (Jvm.Cond.instanceMethod ({ cls := "TemplateEngine", name := "any", desc := "(I)LTemplateEngine$Data;" } : Jvm.MethodName)) ∈ lw_all := lw_g (lw_at lw_m4 55 rfl) rfl
theorem q847 : (Jvm.Cond.code ({ cls := "TemplateEngine", name := "any", desc := "(I)LTemplateEngine$Data;" } : Jvm.MethodName) prog_1_method_17_code (2 : Nat) (Option.some (Jvm.ClassFile.FieldType.object "TemplateEngine$Data"))) ∈ lw_all := lw_g (lw_at lw_m4 56 rfl) rfl
theorem q848 : (Jvm.Cond.methodLink "TemplateEngine" (121 : Nat) ({ cls := "TemplateEngine", name := "none", desc := "()Ljava/util/NoSuchElementException;" } : Jvm.MethodName)) ∈ lw_all := lw_g (lw_at lw_m4 57 rfl) rfl
theorem q849 : (Jvm.Cond.privateMethod ({ cls := "TemplateEngine", name := "none", desc := "()Ljava/util/NoSuchElementException;" } : Jvm.MethodName)) ∈ lw_tbl := lw_at lw_m4 58 rfl
theorem q850 : (Jvm.Cond.instanceMethod ({ cls := "TemplateEngine", name := "none", desc := "()Ljava/util/NoSuchElementException;" } : Jvm.MethodName)) ∈ lw_all := lw_g (lw_at lw_m4 59 rfl) rfl
theorem q851 : (Jvm.Cond.code ({ cls := "TemplateEngine", name := "none", desc := "()Ljava/util/NoSuchElementException;" } : Jvm.MethodName) prog_1_method_9_code (1 : Nat) (Option.some (Jvm.ClassFile.FieldType.object "java/util/NoSuchElementException"))) ∈ lw_all := lw_g (lw_at lw_m4 60 rfl) rfl
theorem q852 : (Jvm.Cond.classLink "TemplateEngine" (70 : Nat) "java/util/NoSuchElementException") ∈ lw_all := lw_g (lw_at lw_m4 61 rfl) rfl
theorem q861 : (Jvm.Cond.methodLink "TemplateEngine" (72 : Nat) ({ cls := "java/util/NoSuchElementException", name := "<init>", desc := "()V" } : Jvm.MethodName)) ∈ lw_all := lw_g (lw_at lw_m4 70 rfl) rfl
theorem q867 : (Jvm.Cond.methodLink "TemplateEngine" (125 : Nat) ({ cls := "java/util/ArrayList", name := "get", desc := "(I)Ljava/lang/Object;" } : Jvm.MethodName)) ∈ lw_all := lw_g (lw_at lw_m4 76 rfl) rfl
theorem q879 : (Jvm.Cond.classLink "TemplateEngine" (2 : Nat) "TemplateEngine$Data") ∈ lw_all := lw_g (lw_at lw_m4 88 rfl) rfl
theorem q880 : (Jvm.Cond.methodLink "TemplateEngine" (133 : Nat) ({ cls := "TemplateEngine$Data", name := "kind", desc := "()I" } : Jvm.MethodName)) ∈ lw_all := lw_g (lw_at lw_m4 89 rfl) rfl
theorem q898 : (Jvm.Cond.methodLink "TemplateEngine" (139 : Nat) ({ cls := "TemplateEngine$Data", name := "contains", desc := "(LTemplateEngine$Data;I)Z" } : Jvm.MethodName)) ∈ lw_all := lw_g (lw_at lw_m4 107 rfl) rfl
theorem q934 : (Jvm.Cond.instanceMethod ({ cls := "TemplateEngine", name := "put", desc := "(II)I" } : Jvm.MethodName)) ∈ lw_all := lw_g (lw_at lw_m4 143 rfl) rfl
theorem q935 : (Jvm.Cond.selects "TemplateEngine" ({ cls := "TemplateEngine", name := "put", desc := "(II)I" } : Jvm.MethodName) ({ cls := "TemplateEngine", name := "put", desc := "(II)I" } : Jvm.MethodName)) ∈ lw_all := lw_g (lw_at lw_m4 144 rfl) rfl
theorem q936 : (Jvm.Cond.code ({ cls := "TemplateEngine", name := "put", desc := "(II)I" } : Jvm.MethodName) prog_1_method_19_code (7 : Nat) (Option.some Jvm.ClassFile.FieldType.int)) ∈ lw_all := lw_g (lw_at lw_m4 145 rfl) rfl
theorem q937 : (Jvm.Cond.methodLink "TemplateEngine" (150 : Nat) ({ cls := "TemplateEngine", name := "isName", desc := "(Ljava/lang/String;)Z" } : Jvm.MethodName)) ∈ lw_all := lw_g (lw_at lw_m4 146 rfl) rfl
theorem q938 : (Jvm.Cond.static ({ cls := "TemplateEngine", name := "isName", desc := "(Ljava/lang/String;)Z" } : Jvm.MethodName)) ∈ lw_all := lw_g (lw_at lw_m4 147 rfl) rfl
theorem q939 : (Jvm.Cond.code ({ cls := "TemplateEngine", name := "isName", desc := "(Ljava/lang/String;)Z" } : Jvm.MethodName) prog_1_method_5_code (2 : Nat) (Option.some Jvm.ClassFile.FieldType.boolean)) ∈ lw_all := lw_g (lw_at lw_m4 148 rfl) rfl
theorem q940 : (Jvm.Cond.methodLink "TemplateEngine" (19 : Nat) ({ cls := "java/lang/String", name := "length", desc := "()I" } : Jvm.MethodName)) ∈ lw_all := lw_g (lw_at lw_m4 149 rfl) rfl
theorem q941 : (Jvm.Cond.methodLink "TemplateEngine" (25 : Nat) ({ cls := "java/lang/String", name := "charAt", desc := "(I)C" } : Jvm.MethodName)) ∈ lw_all := lw_g (lw_at lw_m4 150 rfl) rfl
theorem q956 : (Jvm.Cond.methodLink "TemplateEngine" (29 : Nat) ({ cls := "java/lang/String", name := "isEmpty", desc := "()Z" } : Jvm.MethodName)) ∈ lw_all := lw_g (lw_at lw_m4 165 rfl) rfl
theorem q960 : (Jvm.Cond.methodLink "TemplateEngine" (155 : Nat) ({ cls := "TemplateEngine$MapData", name := "place", desc := "(Ljava/lang/String;)I" } : Jvm.MethodName)) ∈ lw_all := lw_g (lw_at lw_m4 169 rfl) rfl
theorem q972 : (Jvm.Cond.methodLink "TemplateEngine" (159 : Nat) ({ cls := "TemplateEngine$MapData", name := "put", desc := "(Ljava/lang/String;LTemplateEngine$Data;)V" } : Jvm.MethodName)) ∈ lw_all := lw_g (lw_at lw_m4 181 rfl) rfl
theorem q984 : (Jvm.Cond.instanceMethod ({ cls := "TemplateEngine", name := "compile", desc := "(I)I" } : Jvm.MethodName)) ∈ lw_all := lw_g (lw_at lw_m4 193 rfl) rfl
theorem q985 : (Jvm.Cond.selects "TemplateEngine" ({ cls := "TemplateEngine", name := "compile", desc := "(I)I" } : Jvm.MethodName) ({ cls := "TemplateEngine", name := "compile", desc := "(I)I" } : Jvm.MethodName)) ∈ lw_all := lw_g (lw_at lw_m4 194 rfl) rfl
theorem q986 : (Jvm.Cond.codeWith ({ cls := "TemplateEngine", name := "compile", desc := "(I)I" } : Jvm.MethodName) prog_1_method_21_code (4 : Nat) (Option.some Jvm.ClassFile.FieldType.int) [((41 : Nat), (53 : Nat), (56 : Nat), (13 : Nat))]) ∈ lw_all := lw_g (lw_at lw_m4 195 rfl) rfl
theorem q987 : (Jvm.Cond.methodLink "TemplateEngine" (163 : Nat) ({ cls := "TemplateEngine", name := "template", desc := "(I)I" } : Jvm.MethodName)) ∈ lw_all := lw_g (lw_at lw_m4 196 rfl) rfl
theorem q988 : (Jvm.Cond.static ({ cls := "TemplateEngine", name := "template", desc := "(I)I" } : Jvm.MethodName)) ∈ lw_all := lw_g (lw_at lw_m4 197 rfl) rfl
theorem q989 : (Jvm.Cond.code ({ cls := "TemplateEngine", name := "template", desc := "(I)I" } : Jvm.MethodName) prog_1_method_20_code (1 : Nat) (Option.some Jvm.ClassFile.FieldType.int)) ∈ lw_all := lw_g (lw_at lw_m4 198 rfl) rfl
theorem q990 : (Jvm.Cond.methodLink "TemplateEngine" (167 : Nat) ({ cls := "TemplateEngine", name := "outside", desc := "()Ljava/lang/IndexOutOfBoundsException;" } : Jvm.MethodName)) ∈ lw_all := lw_g (lw_at lw_m4 199 rfl) rfl
theorem q991 : (Jvm.Cond.privateMethod ({ cls := "TemplateEngine", name := "outside", desc := "()Ljava/lang/IndexOutOfBoundsException;" } : Jvm.MethodName)) ∈ lw_tbl := lw_at lw_m4 200 rfl
theorem q992 : (Jvm.Cond.instanceMethod ({ cls := "TemplateEngine", name := "outside", desc := "()Ljava/lang/IndexOutOfBoundsException;" } : Jvm.MethodName)) ∈ lw_all := lw_g (lw_at lw_m4 201 rfl) rfl
theorem q993 : (Jvm.Cond.code ({ cls := "TemplateEngine", name := "outside", desc := "()Ljava/lang/IndexOutOfBoundsException;" } : Jvm.MethodName) prog_1_method_10_code (1 : Nat) (Option.some (Jvm.ClassFile.FieldType.object "java/lang/IndexOutOfBoundsException"))) ∈ lw_all := lw_g (lw_at lw_m4 202 rfl) rfl
theorem q994 : (Jvm.Cond.classLink "TemplateEngine" (73 : Nat) "java/lang/IndexOutOfBoundsException") ∈ lw_all := lw_g (lw_at lw_m4 203 rfl) rfl
theorem q1003 : (Jvm.Cond.methodLink "TemplateEngine" (75 : Nat) ({ cls := "java/lang/IndexOutOfBoundsException", name := "<init>", desc := "()V" } : Jvm.MethodName)) ∈ lw_all := lw_g (lw_at lw_m4 212 rfl) rfl
theorem q1009 : (Jvm.Cond.classLink "TemplateEngine" (171 : Nat) "TemplateEngine$Parser") ∈ lw_all := lw_g (lw_at lw_m4 218 rfl) rfl
theorem q1011 : (Jvm.Cond.methodLink "TemplateEngine" (173 : Nat) ({ cls := "TemplateEngine$Parser", name := "<init>", desc := "(LTemplateEngine;Ljava/lang/String;)V" } : Jvm.MethodName)) ∈ lw_all := lw_g (lw_at lw_m4 220 rfl) rfl
theorem q1019 : (Jvm.Cond.fieldLink "TemplateEngine" (180 : Nat) "TemplateEngine$Parser" "tags" "I") ∈ lw_all := lw_g (lw_at lw_m4 228 rfl) rfl
theorem q1038 : (Jvm.Cond.methodLink "TemplateEngine" (176 : Nat) ({ cls := "TemplateEngine$Parser", name := "parts", desc := "(II)[LTemplateEngine$Part;" } : Jvm.MethodName)) ∈ lw_all := lw_g (lw_at lw_m5 7 rfl) rfl
theorem q1121 : (Jvm.Cond.static ({ cls := "TemplateEngine", name := "starts", desc := "(Ljava/lang/String;Ljava/lang/String;I)Z" } : Jvm.MethodName)) ∈ lw_all := lw_g (lw_at lw_m5 90 rfl) rfl
theorem q1122 : (Jvm.Cond.code ({ cls := "TemplateEngine", name := "starts", desc := "(Ljava/lang/String;Ljava/lang/String;I)Z" } : Jvm.MethodName) prog_1_method_4_code (4 : Nat) (Option.some Jvm.ClassFile.FieldType.boolean)) ∈ lw_all := lw_g (lw_at lw_m5 91 rfl) rfl
theorem q1126 : (Jvm.Cond.static ({ cls := "TemplateEngine", name := "faultAt", desc := "(LTemplateEngine;I)Ljava/lang/IllegalArgumentException;" } : Jvm.MethodName)) ∈ lw_all := lw_g (lw_at lw_m5 95 rfl) rfl
theorem q1127 : (Jvm.Cond.code ({ cls := "TemplateEngine", name := "faultAt", desc := "(LTemplateEngine;I)Ljava/lang/IllegalArgumentException;" } : Jvm.MethodName) prog_1_method_3_code (2 : Nat) (Option.some (Jvm.ClassFile.FieldType.object "java/lang/IllegalArgumentException"))) ∈ lw_all := lw_g (lw_at lw_m5 96 rfl) rfl
theorem q1410 : (Jvm.Cond.instanceMethod ({ cls := "TemplateEngine", name := "render", desc := "(II)I" } : Jvm.MethodName)) ∈ lw_all := lw_g (lw_at lw_m6 139 rfl) rfl
theorem q1411 : (Jvm.Cond.selects "TemplateEngine" ({ cls := "TemplateEngine", name := "render", desc := "(II)I" } : Jvm.MethodName) ({ cls := "TemplateEngine", name := "render", desc := "(II)I" } : Jvm.MethodName)) ∈ lw_all := lw_g (lw_at lw_m6 140 rfl) rfl
theorem q1412 : (Jvm.Cond.code ({ cls := "TemplateEngine", name := "render", desc := "(II)I" } : Jvm.MethodName) prog_1_method_24_code (4 : Nat) (Option.some Jvm.ClassFile.FieldType.int)) ∈ lw_all := lw_g (lw_at lw_m6 141 rfl) rfl
theorem q1413 : (Jvm.Cond.methodLink "TemplateEngine" (199 : Nat) ({ cls := "TemplateEngine", name := "run", desc := "(ILTemplateEngine$Data;)LTemplateEngine$Rendering;" } : Jvm.MethodName)) ∈ lw_all := lw_g (lw_at lw_m6 142 rfl) rfl
theorem q1414 : (Jvm.Cond.privateMethod ({ cls := "TemplateEngine", name := "run", desc := "(ILTemplateEngine$Data;)LTemplateEngine$Rendering;" } : Jvm.MethodName)) ∈ lw_tbl := lw_at lw_m6 143 rfl
theorem q1415 : (Jvm.Cond.instanceMethod ({ cls := "TemplateEngine", name := "run", desc := "(ILTemplateEngine$Data;)LTemplateEngine$Rendering;" } : Jvm.MethodName)) ∈ lw_all := lw_g (lw_at lw_m6 144 rfl) rfl
theorem q1416 : (Jvm.Cond.codeWith ({ cls := "TemplateEngine", name := "run", desc := "(ILTemplateEngine$Data;)LTemplateEngine$Rendering;" } : Jvm.MethodName) prog_1_method_23_code (5 : Nat) (Option.some (Jvm.ClassFile.FieldType.object "TemplateEngine$Rendering")) [((9 : Nat), (23 : Nat), (26 : Nat), (70 : Nat)), ((9 : Nat), (23 : Nat), (33 : Nat), (196 : Nat)), ((9 : Nat), (23 : Nat), (53 : Nat), (67 : Nat))]) ∈ lw_all := lw_g (lw_at lw_m6 145 rfl) rfl
theorem q1417 : (Jvm.Cond.classLink "TemplateEngine" (196 : Nat) "java/lang/ArithmeticException") ∈ lw_all := lw_g (lw_at lw_m6 146 rfl) rfl
theorem q1418 : (Jvm.Cond.classLink "TemplateEngine" (183 : Nat) "TemplateEngine$Rendering") ∈ lw_all := lw_g (lw_at lw_m6 147 rfl) rfl
theorem q1420 : (Jvm.Cond.methodLink "TemplateEngine" (185 : Nat) ({ cls := "TemplateEngine$Rendering", name := "<init>", desc := "(LTemplateEngine;)V" } : Jvm.MethodName)) ∈ lw_all := lw_g (lw_at lw_m6 149 rfl) rfl
theorem q1430 : (Jvm.Cond.fieldLink "TemplateEngine" (203 : Nat) "TemplateEngine$Rendering" "out" "LTemplateEngine$Output;") ∈ lw_all := lw_g (lw_at lw_m6 159 rfl) rfl
theorem q1432 : (Jvm.Cond.fieldLink "TemplateEngine" (206 : Nat) "TemplateEngine$Rendering" "tags" "I") ∈ lw_all := lw_g (lw_at lw_m6 161 rfl) rfl
theorem q1443 : (Jvm.Cond.classLink "TemplateEngine" (188 : Nat) "TemplateEngine$Context") ∈ lw_all := lw_g (lw_at lw_m6 172 rfl) rfl
theorem q1445 : (Jvm.Cond.methodLink "TemplateEngine" (190 : Nat) ({ cls := "TemplateEngine$Context", name := "<init>", desc := "(LTemplateEngine$Data;LTemplateEngine$Context;)V" } : Jvm.MethodName)) ∈ lw_all := lw_g (lw_at lw_m6 174 rfl) rfl
theorem q1472 : (Jvm.Cond.methodLink "TemplateEngine" (193 : Nat) ({ cls := "TemplateEngine$Rendering", name := "template", desc := "(ILTemplateEngine$Context;)V" } : Jvm.MethodName)) ∈ lw_all := lw_g (lw_at lw_m6 201 rfl) rfl
theorem q1549 : (Jvm.Cond.laysStatic "TemplateEngine" "DIGITS" "[LTemplateEngine$NumberData;") ∈ lw_tbl := lw_at lw_m7 38 rfl
theorem q1602 : (Jvm.Cond.static ({ cls := "TemplateEngine", name := "digits", desc := "(I)I" } : Jvm.MethodName)) ∈ lw_all := lw_g (lw_at lw_m7 91 rfl) rfl
theorem q1603 : (Jvm.Cond.code ({ cls := "TemplateEngine", name := "digits", desc := "(I)I" } : Jvm.MethodName) prog_1_method_1_code (3 : Nat) (Option.some Jvm.ClassFile.FieldType.int)) ∈ lw_all := lw_g (lw_at lw_m7 92 rfl) rfl
theorem q1674 : (Jvm.Cond.static ({ cls := "TemplateEngine", name := "isFalse", desc := "(LTemplateEngine$Data;)Z" } : Jvm.MethodName)) ∈ lw_all := lw_g (lw_at lw_m7 163 rfl) rfl
theorem q1675 : (Jvm.Cond.code ({ cls := "TemplateEngine", name := "isFalse", desc := "(LTemplateEngine$Data;)Z" } : Jvm.MethodName) prog_1_method_2_code (1 : Nat) (Option.some Jvm.ClassFile.FieldType.boolean)) ∈ lw_all := lw_g (lw_at lw_m7 164 rfl) rfl
theorem q1676 : (Jvm.Cond.methodLink "TemplateEngine" (1 : Nat) ({ cls := "TemplateEngine$Data", name := "isFalse", desc := "()Z" } : Jvm.MethodName)) ∈ lw_all := lw_g (lw_at lw_m7 165 rfl) rfl
theorem q1766 : (Jvm.Cond.methodLink "TemplateEngine" (198 : Nat) ({ cls := "java/lang/ArithmeticException", name := "<init>", desc := "()V" } : Jvm.MethodName)) ∈ lw_all := lw_g (lw_at lw_m8 15 rfl) rfl
theorem q1771 : (Jvm.Cond.instanceMethod ({ cls := "TemplateEngine", name := "at", desc := "(I)I" } : Jvm.MethodName)) ∈ lw_all := lw_g (lw_at lw_m8 20 rfl) rfl
theorem q1772 : (Jvm.Cond.selects "TemplateEngine" ({ cls := "TemplateEngine", name := "at", desc := "(I)I" } : Jvm.MethodName) ({ cls := "TemplateEngine", name := "at", desc := "(I)I" } : Jvm.MethodName)) ∈ lw_all := lw_g (lw_at lw_m8 21 rfl) rfl
theorem q1773 : (Jvm.Cond.code ({ cls := "TemplateEngine", name := "at", desc := "(I)I" } : Jvm.MethodName) prog_1_method_25_code (2 : Nat) (Option.some Jvm.ClassFile.FieldType.int)) ∈ lw_all := lw_g (lw_at lw_m8 22 rfl) rfl
theorem q1774 : (Jvm.Cond.methodLink "TemplateEngine" (209 : Nat) ({ cls := "TemplateEngine$Output", name := "at", desc := "(I)I" } : Jvm.MethodName)) ∈ lw_all := lw_g (lw_at lw_m8 23 rfl) rfl
theorem q1782 : (Jvm.Cond.instanceMethod ({ cls := "TemplateEngine", name := "kind", desc := "(I)I" } : Jvm.MethodName)) ∈ lw_all := lw_g (lw_at lw_m8 31 rfl) rfl
theorem q1783 : (Jvm.Cond.selects "TemplateEngine" ({ cls := "TemplateEngine", name := "kind", desc := "(I)I" } : Jvm.MethodName) ({ cls := "TemplateEngine", name := "kind", desc := "(I)I" } : Jvm.MethodName)) ∈ lw_all := lw_g (lw_at lw_m8 32 rfl) rfl
theorem q1784 : (Jvm.Cond.code ({ cls := "TemplateEngine", name := "kind", desc := "(I)I" } : Jvm.MethodName) prog_1_method_26_code (2 : Nat) (Option.some Jvm.ClassFile.FieldType.int)) ∈ lw_all := lw_g (lw_at lw_m8 33 rfl) rfl
theorem q1789 : (Jvm.Cond.instanceMethod ({ cls := "TemplateEngine", name := "size", desc := "(I)I" } : Jvm.MethodName)) ∈ lw_all := lw_g (lw_at lw_m8 38 rfl) rfl
theorem q1790 : (Jvm.Cond.selects "TemplateEngine" ({ cls := "TemplateEngine", name := "size", desc := "(I)I" } : Jvm.MethodName) ({ cls := "TemplateEngine", name := "size", desc := "(I)I" } : Jvm.MethodName)) ∈ lw_all := lw_g (lw_at lw_m8 39 rfl) rfl
theorem q1791 : (Jvm.Cond.code ({ cls := "TemplateEngine", name := "size", desc := "(I)I" } : Jvm.MethodName) prog_1_method_27_code (2 : Nat) (Option.some Jvm.ClassFile.FieldType.int)) ∈ lw_all := lw_g (lw_at lw_m8 40 rfl) rfl
theorem q1792 : (Jvm.Cond.methodLink "TemplateEngine" (212 : Nat) ({ cls := "TemplateEngine$Data", name := "size", desc := "()I" } : Jvm.MethodName)) ∈ lw_all := lw_g (lw_at lw_m8 41 rfl) rfl
theorem q2288 : (Jvm.Cond.castable "TemplateEngine" "java/lang/Object") ∈ lw_tbl := lw_at lw_m10 57 rfl
theorem in_X1 : ∀ w ∈ wsX10, w ∈ lw_all := lw_in wsX10 [503, 505, 507, 509, 511, 513, 515, 517] (by decide +kernel) (by decide +kernel)

/-! TemplateEngine$Output -/
set_option maxRecDepth 100000
def RX2 : String := "TemplateEngine$Output"
def TX2 : u_T := fun k => match k with
  | _ => ("TemplateEngine$Output", "text", "Ljava/lang/StringBuilder;", true)
def tyX2 : Nat → FieldType := fun k => match k with
  | _ => .object "java/lang/StringBuilder"
abbrev wsX20 : List Cond := u_ws RX2 TX2 1
theorem nmX2 : ∀ a, a < 1 → ∀ b, b < 1 → a ≠ b → (TX2 a).2.1 ≠ (TX2 b).2.1 := by decide +kernel
theorem tyX2_ok : ∀ k, k < 1 → parseFieldDescriptor (TX2 k).2.2.1 = some (tyX2 k) := by decide +kernel
abbrev cX2_init : ByteArray := prog_12_method_1_code
def yX2_init : MethodName := ⟨RX2, "<init>", "()V"⟩
def dkwX2_init_0 : List UInt8 := [42, 183, 0, 3, 42, 187, 0, 9, 89, 183, 0, 11, 181, 0, 12, 177]
abbrev dktX2_init_0 : List UInt8 := dkwX2_init_0 ++ []
theorem dksX2_init_0 : cX2_init.data.toList.drop 0 = dktX2_init_0 := by decide +kernel
theorem dX2_init_0 : decode cX2_init 0 = .ok (.aload_n 0, 1) := dk_42 (dk_at dksX2_init_0 0 rfl rfl)
theorem dX2_init_1 : decode cX2_init 1 = .ok (.invokespecial 3, 3) := dk_183 0 3 (dk_at dksX2_init_0 1 rfl rfl)
theorem dX2_init_4 : decode cX2_init 4 = .ok (.aload_n 0, 1) := dk_42 (dk_at dksX2_init_0 4 rfl rfl)
theorem dX2_init_5 : decode cX2_init 5 = .ok (.new 9, 3) := dk_187 0 9 (dk_at dksX2_init_0 5 rfl rfl)
theorem dX2_init_8 : decode cX2_init 8 = .ok (.dup, 1) := dk_89 (dk_at dksX2_init_0 8 rfl rfl)
theorem dX2_init_9 : decode cX2_init 9 = .ok (.invokespecial 11, 3) := dk_183 0 11 (dk_at dksX2_init_0 9 rfl rfl)
theorem dX2_init_12 : decode cX2_init 12 = .ok (.putfield 12, 3) := dk_181 0 12 (dk_at dksX2_init_0 12 rfl rfl)
theorem dX2_init_15 : decode cX2_init 15 = .ok (.return_, 1) := dk_177 (dk_at dksX2_init_0 15 rfl rfl)
abbrev cX2_length : ByteArray := prog_12_method_10_code
def yX2_length : MethodName := ⟨RX2, "length", "()I"⟩
def dkwX2_length_0 : List UInt8 := [42, 180, 0, 12, 182, 0, 18, 172]
abbrev dktX2_length_0 : List UInt8 := dkwX2_length_0 ++ []
theorem dksX2_length_0 : cX2_length.data.toList.drop 0 = dktX2_length_0 := by decide +kernel
theorem dX2_length_0 : decode cX2_length 0 = .ok (.aload_n 0, 1) := dk_42 (dk_at dksX2_length_0 0 rfl rfl)
theorem dX2_length_1 : decode cX2_length 1 = .ok (.getfield 12, 3) := dk_180 0 12 (dk_at dksX2_length_0 1 rfl rfl)
theorem dX2_length_4 : decode cX2_length 4 = .ok (.invokevirtual 18, 3) := dk_182 0 18 (dk_at dksX2_length_0 4 rfl rfl)
theorem dX2_length_7 : decode cX2_length 7 = .ok (.ireturn, 1) := dk_172 (dk_at dksX2_length_0 7 rfl rfl)
abbrev cX2_inCapitals : ByteArray := prog_12_method_8_code
def yX2_inCapitals : MethodName := ⟨RX2, "inCapitals", "(LTemplateEngine$Data;)LTemplateEngine$TextData;"⟩
def dkwX2_inCapitals_1 : List UInt8 := [183, 0, 74, 176]
abbrev dktX2_inCapitals_1 : List UInt8 := dkwX2_inCapitals_1 ++ []
def dkwX2_inCapitals_0 : List UInt8 := [42, 43, 182, 0, 61, 87, 42, 3, 182, 0, 65, 187, 0, 68, 89, 42, 180, 0, 12, 182, 0, 70]
abbrev dktX2_inCapitals_0 : List UInt8 := dkwX2_inCapitals_0 ++ dktX2_inCapitals_1
theorem dksX2_inCapitals_0 : cX2_inCapitals.data.toList.drop 0 = dktX2_inCapitals_0 := by decide +kernel
theorem dksX2_inCapitals_1 : cX2_inCapitals.data.toList.drop 22 = dktX2_inCapitals_1 := dk_seg dksX2_inCapitals_0 22 rfl rfl
theorem dX2_inCapitals_0 : decode cX2_inCapitals 0 = .ok (.aload_n 0, 1) := dk_42 (dk_at dksX2_inCapitals_0 0 rfl rfl)
theorem dX2_inCapitals_1 : decode cX2_inCapitals 1 = .ok (.aload_n 1, 1) := dk_43 (dk_at dksX2_inCapitals_0 1 rfl rfl)
theorem dX2_inCapitals_2 : decode cX2_inCapitals 2 = .ok (.invokevirtual 61, 3) := dk_182 0 61 (dk_at dksX2_inCapitals_0 2 rfl rfl)
theorem dX2_inCapitals_5 : decode cX2_inCapitals 5 = .ok (.pop, 1) := dk_87 (dk_at dksX2_inCapitals_0 5 rfl rfl)
theorem dX2_inCapitals_6 : decode cX2_inCapitals 6 = .ok (.aload_n 0, 1) := dk_42 (dk_at dksX2_inCapitals_0 6 rfl rfl)
theorem dX2_inCapitals_7 : decode cX2_inCapitals 7 = .ok (.iconst 0, 1) := dk_3 (dk_at dksX2_inCapitals_0 7 rfl rfl)
theorem dX2_inCapitals_8 : decode cX2_inCapitals 8 = .ok (.invokevirtual 65, 3) := dk_182 0 65 (dk_at dksX2_inCapitals_0 8 rfl rfl)
theorem dX2_inCapitals_11 : decode cX2_inCapitals 11 = .ok (.new 68, 3) := dk_187 0 68 (dk_at dksX2_inCapitals_0 11 rfl rfl)
theorem dX2_inCapitals_14 : decode cX2_inCapitals 14 = .ok (.dup, 1) := dk_89 (dk_at dksX2_inCapitals_0 14 rfl rfl)
theorem dX2_inCapitals_15 : decode cX2_inCapitals 15 = .ok (.aload_n 0, 1) := dk_42 (dk_at dksX2_inCapitals_0 15 rfl rfl)
theorem dX2_inCapitals_16 : decode cX2_inCapitals 16 = .ok (.getfield 12, 3) := dk_180 0 12 (dk_at dksX2_inCapitals_0 16 rfl rfl)
theorem dX2_inCapitals_19 : decode cX2_inCapitals 19 = .ok (.invokevirtual 70, 3) := dk_182 0 70 (dk_at dksX2_inCapitals_0 19 rfl rfl)
theorem dX2_inCapitals_22 : decode cX2_inCapitals 22 = .ok (.invokespecial 74, 3) := dk_183 0 74 (dk_at dksX2_inCapitals_1 0 rfl rfl)
theorem dX2_inCapitals_25 : decode cX2_inCapitals 25 = .ok (.areturn, 1) := dk_176 (dk_at dksX2_inCapitals_1 3 rfl rfl)
abbrev cX2_of : ByteArray := prog_12_method_5_code
def yX2_of : MethodName := ⟨RX2, "of", "(LTemplateEngine$Data;)LTemplateEngine$Output;"⟩
def dkwX2_of_0 : List UInt8 := [42, 180, 0, 12, 3, 182, 0, 47, 43, 198, 0, 8, 43, 42, 182, 0, 51, 42, 176]
abbrev dktX2_of_0 : List UInt8 := dkwX2_of_0 ++ []
theorem dksX2_of_0 : cX2_of.data.toList.drop 0 = dktX2_of_0 := by decide +kernel
theorem dX2_of_0 : decode cX2_of 0 = .ok (.aload_n 0, 1) := dk_42 (dk_at dksX2_of_0 0 rfl rfl)
theorem dX2_of_1 : decode cX2_of 1 = .ok (.getfield 12, 3) := dk_180 0 12 (dk_at dksX2_of_0 1 rfl rfl)
theorem dX2_of_4 : decode cX2_of 4 = .ok (.iconst 0, 1) := dk_3 (dk_at dksX2_of_0 4 rfl rfl)
theorem dX2_of_5 : decode cX2_of 5 = .ok (.invokevirtual 47, 3) := dk_182 0 47 (dk_at dksX2_of_0 5 rfl rfl)
theorem dX2_of_8 : decode cX2_of 8 = .ok (.aload_n 1, 1) := dk_43 (dk_at dksX2_of_0 8 rfl rfl)
theorem dX2_of_9 : decode cX2_of 9 = .ok (.ifnull 8, 3) := dk_198 0 8 (dk_at dksX2_of_0 9 rfl rfl)
theorem dX2_of_12 : decode cX2_of 12 = .ok (.aload_n 1, 1) := dk_43 (dk_at dksX2_of_0 12 rfl rfl)
theorem dX2_of_13 : decode cX2_of 13 = .ok (.aload_n 0, 1) := dk_42 (dk_at dksX2_of_0 13 rfl rfl)
theorem dX2_of_14 : decode cX2_of 14 = .ok (.invokevirtual 51, 3) := dk_182 0 51 (dk_at dksX2_of_0 14 rfl rfl)
theorem dX2_of_17 : decode cX2_of 17 = .ok (.aload_n 0, 1) := dk_42 (dk_at dksX2_of_0 17 rfl rfl)
theorem dX2_of_18 : decode cX2_of 18 = .ok (.areturn, 1) := dk_176 (dk_at dksX2_of_0 18 rfl rfl)
abbrev cX2_add : ByteArray := prog_12_method_2_code
def yX2_add : MethodName := ⟨RX2, "add", "(Ljava/lang/String;)V"⟩
def dkwX2_add_1 : List UInt8 := [183, 0, 27, 191, 42, 180, 0, 12, 43, 182, 0, 28, 87, 177]
abbrev dktX2_add_1 : List UInt8 := dkwX2_add_1 ++ []
def dkwX2_add_0 : List UInt8 := [42, 180, 0, 12, 182, 0, 18, 43, 182, 0, 22, 96, 17, 1, 144, 164, 0, 11, 187, 0, 25, 89]
abbrev dktX2_add_0 : List UInt8 := dkwX2_add_0 ++ dktX2_add_1
theorem dksX2_add_0 : cX2_add.data.toList.drop 0 = dktX2_add_0 := by decide +kernel
theorem dksX2_add_1 : cX2_add.data.toList.drop 22 = dktX2_add_1 := dk_seg dksX2_add_0 22 rfl rfl
theorem dX2_add_0 : decode cX2_add 0 = .ok (.aload_n 0, 1) := dk_42 (dk_at dksX2_add_0 0 rfl rfl)
theorem dX2_add_1 : decode cX2_add 1 = .ok (.getfield 12, 3) := dk_180 0 12 (dk_at dksX2_add_0 1 rfl rfl)
theorem dX2_add_4 : decode cX2_add 4 = .ok (.invokevirtual 18, 3) := dk_182 0 18 (dk_at dksX2_add_0 4 rfl rfl)
theorem dX2_add_7 : decode cX2_add 7 = .ok (.aload_n 1, 1) := dk_43 (dk_at dksX2_add_0 7 rfl rfl)
theorem dX2_add_8 : decode cX2_add 8 = .ok (.invokevirtual 22, 3) := dk_182 0 22 (dk_at dksX2_add_0 8 rfl rfl)
theorem dX2_add_11 : decode cX2_add 11 = .ok (.iadd, 1) := dk_96 (dk_at dksX2_add_0 11 rfl rfl)
theorem dX2_add_12 : decode cX2_add 12 = .ok (.sipush 400, 3) := dk_17 1 144 (dk_at dksX2_add_0 12 rfl rfl)
theorem dX2_add_15 : decode cX2_add 15 = .ok (.if_icmp .le 11, 3) := dk_164 0 11 (dk_at dksX2_add_0 15 rfl rfl)
theorem dX2_add_18 : decode cX2_add 18 = .ok (.new 25, 3) := dk_187 0 25 (dk_at dksX2_add_0 18 rfl rfl)
theorem dX2_add_21 : decode cX2_add 21 = .ok (.dup, 1) := dk_89 (dk_at dksX2_add_0 21 rfl rfl)
theorem dX2_add_22 : decode cX2_add 22 = .ok (.invokespecial 27, 3) := dk_183 0 27 (dk_at dksX2_add_1 0 rfl rfl)
theorem dX2_add_25 : decode cX2_add 25 = .ok (.athrow, 1) := dk_191 (dk_at dksX2_add_1 3 rfl rfl)
theorem dX2_add_26 : decode cX2_add 26 = .ok (.aload_n 0, 1) := dk_42 (dk_at dksX2_add_1 4 rfl rfl)
theorem dX2_add_27 : decode cX2_add 27 = .ok (.getfield 12, 3) := dk_180 0 12 (dk_at dksX2_add_1 5 rfl rfl)
theorem dX2_add_30 : decode cX2_add 30 = .ok (.aload_n 1, 1) := dk_43 (dk_at dksX2_add_1 8 rfl rfl)
theorem dX2_add_31 : decode cX2_add 31 = .ok (.invokevirtual 28, 3) := dk_182 0 28 (dk_at dksX2_add_1 9 rfl rfl)
theorem dX2_add_34 : decode cX2_add 34 = .ok (.pop, 1) := dk_87 (dk_at dksX2_add_1 12 rfl rfl)
theorem dX2_add_35 : decode cX2_add 35 = .ok (.return_, 1) := dk_177 (dk_at dksX2_add_1 13 rfl rfl)
abbrev cX2_addNumber : ByteArray := prog_12_method_3_code
def yX2_addNumber : MethodName := ⟨RX2, "addNumber", "(I)V"⟩
def dkwX2_addNumber_1 : List UInt8 := [183, 0, 27, 191, 42, 180, 0, 12, 27, 182, 0, 36, 87, 177]
abbrev dktX2_addNumber_1 : List UInt8 := dkwX2_addNumber_1 ++ []
def dkwX2_addNumber_0 : List UInt8 := [42, 180, 0, 12, 182, 0, 18, 27, 184, 0, 32, 96, 17, 1, 144, 164, 0, 11, 187, 0, 25, 89]
abbrev dktX2_addNumber_0 : List UInt8 := dkwX2_addNumber_0 ++ dktX2_addNumber_1
theorem dksX2_addNumber_0 : cX2_addNumber.data.toList.drop 0 = dktX2_addNumber_0 := by decide +kernel
theorem dksX2_addNumber_1 : cX2_addNumber.data.toList.drop 22 = dktX2_addNumber_1 := dk_seg dksX2_addNumber_0 22 rfl rfl
theorem dX2_addNumber_0 : decode cX2_addNumber 0 = .ok (.aload_n 0, 1) := dk_42 (dk_at dksX2_addNumber_0 0 rfl rfl)
theorem dX2_addNumber_1 : decode cX2_addNumber 1 = .ok (.getfield 12, 3) := dk_180 0 12 (dk_at dksX2_addNumber_0 1 rfl rfl)
theorem dX2_addNumber_4 : decode cX2_addNumber 4 = .ok (.invokevirtual 18, 3) := dk_182 0 18 (dk_at dksX2_addNumber_0 4 rfl rfl)
theorem dX2_addNumber_7 : decode cX2_addNumber 7 = .ok (.iload_n 1, 1) := dk_27 (dk_at dksX2_addNumber_0 7 rfl rfl)
theorem dX2_addNumber_8 : decode cX2_addNumber 8 = .ok (.invokestatic 32, 3) := dk_184 0 32 (dk_at dksX2_addNumber_0 8 rfl rfl)
theorem dX2_addNumber_11 : decode cX2_addNumber 11 = .ok (.iadd, 1) := dk_96 (dk_at dksX2_addNumber_0 11 rfl rfl)
theorem dX2_addNumber_12 : decode cX2_addNumber 12 = .ok (.sipush 400, 3) := dk_17 1 144 (dk_at dksX2_addNumber_0 12 rfl rfl)
theorem dX2_addNumber_15 : decode cX2_addNumber 15 = .ok (.if_icmp .le 11, 3) := dk_164 0 11 (dk_at dksX2_addNumber_0 15 rfl rfl)
theorem dX2_addNumber_18 : decode cX2_addNumber 18 = .ok (.new 25, 3) := dk_187 0 25 (dk_at dksX2_addNumber_0 18 rfl rfl)
theorem dX2_addNumber_21 : decode cX2_addNumber 21 = .ok (.dup, 1) := dk_89 (dk_at dksX2_addNumber_0 21 rfl rfl)
theorem dX2_addNumber_22 : decode cX2_addNumber 22 = .ok (.invokespecial 27, 3) := dk_183 0 27 (dk_at dksX2_addNumber_1 0 rfl rfl)
theorem dX2_addNumber_25 : decode cX2_addNumber 25 = .ok (.athrow, 1) := dk_191 (dk_at dksX2_addNumber_1 3 rfl rfl)
theorem dX2_addNumber_26 : decode cX2_addNumber 26 = .ok (.aload_n 0, 1) := dk_42 (dk_at dksX2_addNumber_1 4 rfl rfl)
theorem dX2_addNumber_27 : decode cX2_addNumber 27 = .ok (.getfield 12, 3) := dk_180 0 12 (dk_at dksX2_addNumber_1 5 rfl rfl)
theorem dX2_addNumber_30 : decode cX2_addNumber 30 = .ok (.iload_n 1, 1) := dk_27 (dk_at dksX2_addNumber_1 8 rfl rfl)
theorem dX2_addNumber_31 : decode cX2_addNumber 31 = .ok (.invokevirtual 36, 3) := dk_182 0 36 (dk_at dksX2_addNumber_1 9 rfl rfl)
theorem dX2_addNumber_34 : decode cX2_addNumber 34 = .ok (.pop, 1) := dk_87 (dk_at dksX2_addNumber_1 12 rfl rfl)
theorem dX2_addNumber_35 : decode cX2_addNumber 35 = .ok (.return_, 1) := dk_177 (dk_at dksX2_addNumber_1 13 rfl rfl)
abbrev cX2_capitals : ByteArray := prog_12_method_7_code
def yX2_capitals : MethodName := ⟨RX2, "capitals", "(I)V"⟩
def dkwX2_capitals_2 : List UInt8 := [132, 2, 1, 167, 255, 208, 177]
abbrev dktX2_capitals_2 : List UInt8 := dkwX2_capitals_2 ++ []
def dkwX2_capitals_1 : List UInt8 := [16, 97, 161, 0, 22, 29, 16, 122, 163, 0, 16, 42, 180, 0, 12, 28, 29, 16, 32, 100, 146, 182, 0, 57]
abbrev dktX2_capitals_1 : List UInt8 := dkwX2_capitals_1 ++ dktX2_capitals_2
def dkwX2_capitals_0 : List UInt8 := [27, 61, 28, 42, 180, 0, 12, 182, 0, 18, 162, 0, 43, 42, 180, 0, 12, 28, 182, 0, 39, 62, 29]
abbrev dktX2_capitals_0 : List UInt8 := dkwX2_capitals_0 ++ dktX2_capitals_1
theorem dksX2_capitals_0 : cX2_capitals.data.toList.drop 0 = dktX2_capitals_0 := by decide +kernel
theorem dksX2_capitals_1 : cX2_capitals.data.toList.drop 23 = dktX2_capitals_1 := dk_seg dksX2_capitals_0 23 rfl rfl
theorem dksX2_capitals_2 : cX2_capitals.data.toList.drop 47 = dktX2_capitals_2 := dk_seg dksX2_capitals_1 24 rfl rfl
theorem dX2_capitals_0 : decode cX2_capitals 0 = .ok (.iload_n 1, 1) := dk_27 (dk_at dksX2_capitals_0 0 rfl rfl)
theorem dX2_capitals_1 : decode cX2_capitals 1 = .ok (.istore_n 2, 1) := dk_61 (dk_at dksX2_capitals_0 1 rfl rfl)
theorem dX2_capitals_2 : decode cX2_capitals 2 = .ok (.iload_n 2, 1) := dk_28 (dk_at dksX2_capitals_0 2 rfl rfl)
theorem dX2_capitals_3 : decode cX2_capitals 3 = .ok (.aload_n 0, 1) := dk_42 (dk_at dksX2_capitals_0 3 rfl rfl)
theorem dX2_capitals_4 : decode cX2_capitals 4 = .ok (.getfield 12, 3) := dk_180 0 12 (dk_at dksX2_capitals_0 4 rfl rfl)
theorem dX2_capitals_7 : decode cX2_capitals 7 = .ok (.invokevirtual 18, 3) := dk_182 0 18 (dk_at dksX2_capitals_0 7 rfl rfl)
theorem dX2_capitals_10 : decode cX2_capitals 10 = .ok (.if_icmp .ge 43, 3) := dk_162 0 43 (dk_at dksX2_capitals_0 10 rfl rfl)
theorem dX2_capitals_13 : decode cX2_capitals 13 = .ok (.aload_n 0, 1) := dk_42 (dk_at dksX2_capitals_0 13 rfl rfl)
theorem dX2_capitals_14 : decode cX2_capitals 14 = .ok (.getfield 12, 3) := dk_180 0 12 (dk_at dksX2_capitals_0 14 rfl rfl)
theorem dX2_capitals_17 : decode cX2_capitals 17 = .ok (.iload_n 2, 1) := dk_28 (dk_at dksX2_capitals_0 17 rfl rfl)
theorem dX2_capitals_18 : decode cX2_capitals 18 = .ok (.invokevirtual 39, 3) := dk_182 0 39 (dk_at dksX2_capitals_0 18 rfl rfl)
theorem dX2_capitals_21 : decode cX2_capitals 21 = .ok (.istore_n 3, 1) := dk_62 (dk_at dksX2_capitals_0 21 rfl rfl)
theorem dX2_capitals_22 : decode cX2_capitals 22 = .ok (.iload_n 3, 1) := dk_29 (dk_at dksX2_capitals_0 22 rfl rfl)
theorem dX2_capitals_23 : decode cX2_capitals 23 = .ok (.bipush 97, 2) := dk_16 97 (dk_at dksX2_capitals_1 0 rfl rfl)
theorem dX2_capitals_25 : decode cX2_capitals 25 = .ok (.if_icmp .lt 22, 3) := dk_161 0 22 (dk_at dksX2_capitals_1 2 rfl rfl)
theorem dX2_capitals_28 : decode cX2_capitals 28 = .ok (.iload_n 3, 1) := dk_29 (dk_at dksX2_capitals_1 5 rfl rfl)
theorem dX2_capitals_29 : decode cX2_capitals 29 = .ok (.bipush 122, 2) := dk_16 122 (dk_at dksX2_capitals_1 6 rfl rfl)
theorem dX2_capitals_31 : decode cX2_capitals 31 = .ok (.if_icmp .gt 16, 3) := dk_163 0 16 (dk_at dksX2_capitals_1 8 rfl rfl)
theorem dX2_capitals_34 : decode cX2_capitals 34 = .ok (.aload_n 0, 1) := dk_42 (dk_at dksX2_capitals_1 11 rfl rfl)
theorem dX2_capitals_35 : decode cX2_capitals 35 = .ok (.getfield 12, 3) := dk_180 0 12 (dk_at dksX2_capitals_1 12 rfl rfl)
theorem dX2_capitals_38 : decode cX2_capitals 38 = .ok (.iload_n 2, 1) := dk_28 (dk_at dksX2_capitals_1 15 rfl rfl)
theorem dX2_capitals_39 : decode cX2_capitals 39 = .ok (.iload_n 3, 1) := dk_29 (dk_at dksX2_capitals_1 16 rfl rfl)
theorem dX2_capitals_40 : decode cX2_capitals 40 = .ok (.bipush 32, 2) := dk_16 32 (dk_at dksX2_capitals_1 17 rfl rfl)
theorem dX2_capitals_42 : decode cX2_capitals 42 = .ok (.isub, 1) := dk_100 (dk_at dksX2_capitals_1 19 rfl rfl)
theorem dX2_capitals_43 : decode cX2_capitals 43 = .ok (.i2c, 1) := dk_146 (dk_at dksX2_capitals_1 20 rfl rfl)
theorem dX2_capitals_44 : decode cX2_capitals 44 = .ok (.invokevirtual 57, 3) := dk_182 0 57 (dk_at dksX2_capitals_1 21 rfl rfl)
theorem dX2_capitals_47 : decode cX2_capitals 47 = .ok (.iinc 2 1, 3) := dk_132 2 1 (dk_at dksX2_capitals_2 0 rfl rfl)
theorem dX2_capitals_50 : decode cX2_capitals 50 = .ok (.goto (-48), 3) := dk_167 255 208 (dk_at dksX2_capitals_2 3 rfl rfl)
theorem dX2_capitals_53 : decode cX2_capitals 53 = .ok (.return_, 1) := dk_177 (dk_at dksX2_capitals_2 6 rfl rfl)
abbrev cX2_isLike : ByteArray := prog_12_method_6_code
def yX2_isLike : MethodName := ⟨RX2, "isLike", "(LTemplateEngine$Output;)Z"⟩
def dkwX2_isLike_2 : List UInt8 := [182, 0, 39, 159, 0, 5, 3, 172, 132, 2, 1, 167, 255, 221, 4, 172]
abbrev dktX2_isLike_2 : List UInt8 := dkwX2_isLike_2 ++ []
def dkwX2_isLike_1 : List UInt8 := [180, 0, 12, 182, 0, 18, 162, 0, 30, 42, 180, 0, 12, 28, 182, 0, 39, 43, 180, 0, 12, 28]
abbrev dktX2_isLike_1 : List UInt8 := dkwX2_isLike_1 ++ dktX2_isLike_2
def dkwX2_isLike_0 : List UInt8 := [42, 180, 0, 12, 182, 0, 18, 43, 180, 0, 12, 182, 0, 18, 159, 0, 5, 3, 172, 3, 61, 28, 42]
abbrev dktX2_isLike_0 : List UInt8 := dkwX2_isLike_0 ++ dktX2_isLike_1
theorem dksX2_isLike_0 : cX2_isLike.data.toList.drop 0 = dktX2_isLike_0 := by decide +kernel
theorem dksX2_isLike_1 : cX2_isLike.data.toList.drop 23 = dktX2_isLike_1 := dk_seg dksX2_isLike_0 23 rfl rfl
theorem dksX2_isLike_2 : cX2_isLike.data.toList.drop 45 = dktX2_isLike_2 := dk_seg dksX2_isLike_1 22 rfl rfl
theorem dX2_isLike_0 : decode cX2_isLike 0 = .ok (.aload_n 0, 1) := dk_42 (dk_at dksX2_isLike_0 0 rfl rfl)
theorem dX2_isLike_1 : decode cX2_isLike 1 = .ok (.getfield 12, 3) := dk_180 0 12 (dk_at dksX2_isLike_0 1 rfl rfl)
theorem dX2_isLike_4 : decode cX2_isLike 4 = .ok (.invokevirtual 18, 3) := dk_182 0 18 (dk_at dksX2_isLike_0 4 rfl rfl)
theorem dX2_isLike_7 : decode cX2_isLike 7 = .ok (.aload_n 1, 1) := dk_43 (dk_at dksX2_isLike_0 7 rfl rfl)
theorem dX2_isLike_8 : decode cX2_isLike 8 = .ok (.getfield 12, 3) := dk_180 0 12 (dk_at dksX2_isLike_0 8 rfl rfl)
theorem dX2_isLike_11 : decode cX2_isLike 11 = .ok (.invokevirtual 18, 3) := dk_182 0 18 (dk_at dksX2_isLike_0 11 rfl rfl)
theorem dX2_isLike_14 : decode cX2_isLike 14 = .ok (.if_icmp .eq 5, 3) := dk_159 0 5 (dk_at dksX2_isLike_0 14 rfl rfl)
theorem dX2_isLike_17 : decode cX2_isLike 17 = .ok (.iconst 0, 1) := dk_3 (dk_at dksX2_isLike_0 17 rfl rfl)
theorem dX2_isLike_18 : decode cX2_isLike 18 = .ok (.ireturn, 1) := dk_172 (dk_at dksX2_isLike_0 18 rfl rfl)
theorem dX2_isLike_19 : decode cX2_isLike 19 = .ok (.iconst 0, 1) := dk_3 (dk_at dksX2_isLike_0 19 rfl rfl)
theorem dX2_isLike_20 : decode cX2_isLike 20 = .ok (.istore_n 2, 1) := dk_61 (dk_at dksX2_isLike_0 20 rfl rfl)
theorem dX2_isLike_21 : decode cX2_isLike 21 = .ok (.iload_n 2, 1) := dk_28 (dk_at dksX2_isLike_0 21 rfl rfl)
theorem dX2_isLike_22 : decode cX2_isLike 22 = .ok (.aload_n 0, 1) := dk_42 (dk_at dksX2_isLike_0 22 rfl rfl)
theorem dX2_isLike_23 : decode cX2_isLike 23 = .ok (.getfield 12, 3) := dk_180 0 12 (dk_at dksX2_isLike_1 0 rfl rfl)
theorem dX2_isLike_26 : decode cX2_isLike 26 = .ok (.invokevirtual 18, 3) := dk_182 0 18 (dk_at dksX2_isLike_1 3 rfl rfl)
theorem dX2_isLike_29 : decode cX2_isLike 29 = .ok (.if_icmp .ge 30, 3) := dk_162 0 30 (dk_at dksX2_isLike_1 6 rfl rfl)
theorem dX2_isLike_32 : decode cX2_isLike 32 = .ok (.aload_n 0, 1) := dk_42 (dk_at dksX2_isLike_1 9 rfl rfl)
theorem dX2_isLike_33 : decode cX2_isLike 33 = .ok (.getfield 12, 3) := dk_180 0 12 (dk_at dksX2_isLike_1 10 rfl rfl)
theorem dX2_isLike_36 : decode cX2_isLike 36 = .ok (.iload_n 2, 1) := dk_28 (dk_at dksX2_isLike_1 13 rfl rfl)
theorem dX2_isLike_37 : decode cX2_isLike 37 = .ok (.invokevirtual 39, 3) := dk_182 0 39 (dk_at dksX2_isLike_1 14 rfl rfl)
theorem dX2_isLike_40 : decode cX2_isLike 40 = .ok (.aload_n 1, 1) := dk_43 (dk_at dksX2_isLike_1 17 rfl rfl)
theorem dX2_isLike_41 : decode cX2_isLike 41 = .ok (.getfield 12, 3) := dk_180 0 12 (dk_at dksX2_isLike_1 18 rfl rfl)
theorem dX2_isLike_44 : decode cX2_isLike 44 = .ok (.iload_n 2, 1) := dk_28 (dk_at dksX2_isLike_1 21 rfl rfl)
theorem dX2_isLike_45 : decode cX2_isLike 45 = .ok (.invokevirtual 39, 3) := dk_182 0 39 (dk_at dksX2_isLike_2 0 rfl rfl)
theorem dX2_isLike_48 : decode cX2_isLike 48 = .ok (.if_icmp .eq 5, 3) := dk_159 0 5 (dk_at dksX2_isLike_2 3 rfl rfl)
theorem dX2_isLike_51 : decode cX2_isLike 51 = .ok (.iconst 0, 1) := dk_3 (dk_at dksX2_isLike_2 6 rfl rfl)
theorem dX2_isLike_52 : decode cX2_isLike 52 = .ok (.ireturn, 1) := dk_172 (dk_at dksX2_isLike_2 7 rfl rfl)
theorem dX2_isLike_53 : decode cX2_isLike 53 = .ok (.iinc 2 1, 3) := dk_132 2 1 (dk_at dksX2_isLike_2 8 rfl rfl)
theorem dX2_isLike_56 : decode cX2_isLike 56 = .ok (.goto (-35), 3) := dk_167 255 221 (dk_at dksX2_isLike_2 11 rfl rfl)
theorem dX2_isLike_59 : decode cX2_isLike 59 = .ok (.iconst 1, 1) := dk_4 (dk_at dksX2_isLike_2 14 rfl rfl)
theorem dX2_isLike_60 : decode cX2_isLike 60 = .ok (.ireturn, 1) := dk_172 (dk_at dksX2_isLike_2 15 rfl rfl)
abbrev cX2_addEscaped : ByteArray := prog_12_method_4_code
def yX2_addEscaped : MethodName := ⟨RX2, "addEscaped", "(LTemplateEngine$Output;)V"⟩
def dkwX2_addEscaped_1 : List UInt8 := [182, 0, 43, 132, 2, 1, 167, 255, 230, 177]
abbrev dktX2_addEscaped_1 : List UInt8 := dkwX2_addEscaped_1 ++ []
def dkwX2_addEscaped_0 : List UInt8 := [3, 61, 28, 43, 180, 0, 12, 182, 0, 18, 162, 0, 21, 42, 43, 180, 0, 12, 28, 182, 0, 39]
abbrev dktX2_addEscaped_0 : List UInt8 := dkwX2_addEscaped_0 ++ dktX2_addEscaped_1
theorem dksX2_addEscaped_0 : cX2_addEscaped.data.toList.drop 0 = dktX2_addEscaped_0 := by decide +kernel
theorem dksX2_addEscaped_1 : cX2_addEscaped.data.toList.drop 22 = dktX2_addEscaped_1 := dk_seg dksX2_addEscaped_0 22 rfl rfl
theorem dX2_addEscaped_0 : decode cX2_addEscaped 0 = .ok (.iconst 0, 1) := dk_3 (dk_at dksX2_addEscaped_0 0 rfl rfl)
theorem dX2_addEscaped_1 : decode cX2_addEscaped 1 = .ok (.istore_n 2, 1) := dk_61 (dk_at dksX2_addEscaped_0 1 rfl rfl)
theorem dX2_addEscaped_2 : decode cX2_addEscaped 2 = .ok (.iload_n 2, 1) := dk_28 (dk_at dksX2_addEscaped_0 2 rfl rfl)
theorem dX2_addEscaped_3 : decode cX2_addEscaped 3 = .ok (.aload_n 1, 1) := dk_43 (dk_at dksX2_addEscaped_0 3 rfl rfl)
theorem dX2_addEscaped_4 : decode cX2_addEscaped 4 = .ok (.getfield 12, 3) := dk_180 0 12 (dk_at dksX2_addEscaped_0 4 rfl rfl)
theorem dX2_addEscaped_7 : decode cX2_addEscaped 7 = .ok (.invokevirtual 18, 3) := dk_182 0 18 (dk_at dksX2_addEscaped_0 7 rfl rfl)
theorem dX2_addEscaped_10 : decode cX2_addEscaped 10 = .ok (.if_icmp .ge 21, 3) := dk_162 0 21 (dk_at dksX2_addEscaped_0 10 rfl rfl)
theorem dX2_addEscaped_13 : decode cX2_addEscaped 13 = .ok (.aload_n 0, 1) := dk_42 (dk_at dksX2_addEscaped_0 13 rfl rfl)
theorem dX2_addEscaped_14 : decode cX2_addEscaped 14 = .ok (.aload_n 1, 1) := dk_43 (dk_at dksX2_addEscaped_0 14 rfl rfl)
theorem dX2_addEscaped_15 : decode cX2_addEscaped 15 = .ok (.getfield 12, 3) := dk_180 0 12 (dk_at dksX2_addEscaped_0 15 rfl rfl)
theorem dX2_addEscaped_18 : decode cX2_addEscaped 18 = .ok (.iload_n 2, 1) := dk_28 (dk_at dksX2_addEscaped_0 18 rfl rfl)
theorem dX2_addEscaped_19 : decode cX2_addEscaped 19 = .ok (.invokevirtual 39, 3) := dk_182 0 39 (dk_at dksX2_addEscaped_0 19 rfl rfl)
theorem dX2_addEscaped_22 : decode cX2_addEscaped 22 = .ok (.invokevirtual 43, 3) := dk_182 0 43 (dk_at dksX2_addEscaped_1 0 rfl rfl)
theorem dX2_addEscaped_25 : decode cX2_addEscaped 25 = .ok (.iinc 2 1, 3) := dk_132 2 1 (dk_at dksX2_addEscaped_1 3 rfl rfl)
theorem dX2_addEscaped_28 : decode cX2_addEscaped 28 = .ok (.goto (-26), 3) := dk_167 255 230 (dk_at dksX2_addEscaped_1 6 rfl rfl)
theorem dX2_addEscaped_31 : decode cX2_addEscaped 31 = .ok (.return_, 1) := dk_177 (dk_at dksX2_addEscaped_1 9 rfl rfl)
abbrev cX2_addChar : ByteArray := prog_12_method_9_code
def yX2_addChar : MethodName := ⟨RX2, "addChar", "(C)V"⟩
def dkwX2_addChar_4 : List UInt8 := [191, 42, 180, 0, 12, 27, 182, 0, 88, 87, 177]
abbrev dktX2_addChar_4 : List UInt8 := dkwX2_addChar_4 ++ []
def dkwX2_addChar_3 : List UInt8 := [182, 0, 79, 177, 42, 180, 0, 12, 182, 0, 18, 17, 1, 144, 160, 0, 11, 187, 0, 25, 89, 183, 0, 27]
abbrev dktX2_addChar_3 : List UInt8 := dkwX2_addChar_3 ++ dktX2_addChar_4
def dkwX2_addChar_2 : List UInt8 := [42, 18, 77, 182, 0, 79, 177, 42, 18, 82, 182, 0, 79, 177, 42, 18, 84, 182, 0, 79, 177, 42, 18, 86]
abbrev dktX2_addChar_2 : List UInt8 := dkwX2_addChar_2 ++ dktX2_addChar_3
def dkwX2_addChar_1 : List UInt8 := [171, 0, 0, 0, 0, 0, 71, 0, 0, 0, 4, 0, 0, 0, 34, 0, 0, 0, 64, 0, 0, 0, 38, 0, 0, 0, 43, 0, 0, 0, 60, 0, 0, 0, 50, 0, 0, 0, 62, 0, 0, 0, 57]
abbrev dktX2_addChar_1 : List UInt8 := dkwX2_addChar_1 ++ dktX2_addChar_2
def dkwX2_addChar_0 : List UInt8 := [27]
abbrev dktX2_addChar_0 : List UInt8 := dkwX2_addChar_0 ++ dktX2_addChar_1
theorem dksX2_addChar_0 : cX2_addChar.data.toList.drop 0 = dktX2_addChar_0 := by decide +kernel
theorem dksX2_addChar_1 : cX2_addChar.data.toList.drop 1 = dktX2_addChar_1 := dk_seg dksX2_addChar_0 1 rfl rfl
theorem dksX2_addChar_2 : cX2_addChar.data.toList.drop 44 = dktX2_addChar_2 := dk_seg dksX2_addChar_1 43 rfl rfl
theorem dksX2_addChar_3 : cX2_addChar.data.toList.drop 68 = dktX2_addChar_3 := dk_seg dksX2_addChar_2 24 rfl rfl
theorem dksX2_addChar_4 : cX2_addChar.data.toList.drop 92 = dktX2_addChar_4 := dk_seg dksX2_addChar_3 24 rfl rfl
theorem dX2_addChar_0 : decode cX2_addChar 0 = .ok (.iload_n 1, 1) := dk_27 (dk_at dksX2_addChar_0 0 rfl rfl)
theorem dX2_addChar_1 : decode cX2_addChar 1 = .ok (.lookupswitch 71 #[(34, 64), (38, 43), (60, 50), (62, 57)], 43) := by decide +kernel
theorem dX2_addChar_44 : decode cX2_addChar 44 = .ok (.aload_n 0, 1) := dk_42 (dk_at dksX2_addChar_2 0 rfl rfl)
theorem dX2_addChar_45 : decode cX2_addChar 45 = .ok (.ldc 77, 2) := dk_18 77 (dk_at dksX2_addChar_2 1 rfl rfl)
theorem dX2_addChar_47 : decode cX2_addChar 47 = .ok (.invokevirtual 79, 3) := dk_182 0 79 (dk_at dksX2_addChar_2 3 rfl rfl)
theorem dX2_addChar_50 : decode cX2_addChar 50 = .ok (.return_, 1) := dk_177 (dk_at dksX2_addChar_2 6 rfl rfl)
theorem dX2_addChar_51 : decode cX2_addChar 51 = .ok (.aload_n 0, 1) := dk_42 (dk_at dksX2_addChar_2 7 rfl rfl)
theorem dX2_addChar_52 : decode cX2_addChar 52 = .ok (.ldc 82, 2) := dk_18 82 (dk_at dksX2_addChar_2 8 rfl rfl)
theorem dX2_addChar_54 : decode cX2_addChar 54 = .ok (.invokevirtual 79, 3) := dk_182 0 79 (dk_at dksX2_addChar_2 10 rfl rfl)
theorem dX2_addChar_57 : decode cX2_addChar 57 = .ok (.return_, 1) := dk_177 (dk_at dksX2_addChar_2 13 rfl rfl)
theorem dX2_addChar_58 : decode cX2_addChar 58 = .ok (.aload_n 0, 1) := dk_42 (dk_at dksX2_addChar_2 14 rfl rfl)
theorem dX2_addChar_59 : decode cX2_addChar 59 = .ok (.ldc 84, 2) := dk_18 84 (dk_at dksX2_addChar_2 15 rfl rfl)
theorem dX2_addChar_61 : decode cX2_addChar 61 = .ok (.invokevirtual 79, 3) := dk_182 0 79 (dk_at dksX2_addChar_2 17 rfl rfl)
theorem dX2_addChar_64 : decode cX2_addChar 64 = .ok (.return_, 1) := dk_177 (dk_at dksX2_addChar_2 20 rfl rfl)
theorem dX2_addChar_65 : decode cX2_addChar 65 = .ok (.aload_n 0, 1) := dk_42 (dk_at dksX2_addChar_2 21 rfl rfl)
theorem dX2_addChar_66 : decode cX2_addChar 66 = .ok (.ldc 86, 2) := dk_18 86 (dk_at dksX2_addChar_2 22 rfl rfl)
theorem dX2_addChar_68 : decode cX2_addChar 68 = .ok (.invokevirtual 79, 3) := dk_182 0 79 (dk_at dksX2_addChar_3 0 rfl rfl)
theorem dX2_addChar_71 : decode cX2_addChar 71 = .ok (.return_, 1) := dk_177 (dk_at dksX2_addChar_3 3 rfl rfl)
theorem dX2_addChar_72 : decode cX2_addChar 72 = .ok (.aload_n 0, 1) := dk_42 (dk_at dksX2_addChar_3 4 rfl rfl)
theorem dX2_addChar_73 : decode cX2_addChar 73 = .ok (.getfield 12, 3) := dk_180 0 12 (dk_at dksX2_addChar_3 5 rfl rfl)
theorem dX2_addChar_76 : decode cX2_addChar 76 = .ok (.invokevirtual 18, 3) := dk_182 0 18 (dk_at dksX2_addChar_3 8 rfl rfl)
theorem dX2_addChar_79 : decode cX2_addChar 79 = .ok (.sipush 400, 3) := dk_17 1 144 (dk_at dksX2_addChar_3 11 rfl rfl)
theorem dX2_addChar_82 : decode cX2_addChar 82 = .ok (.if_icmp .ne 11, 3) := dk_160 0 11 (dk_at dksX2_addChar_3 14 rfl rfl)
theorem dX2_addChar_85 : decode cX2_addChar 85 = .ok (.new 25, 3) := dk_187 0 25 (dk_at dksX2_addChar_3 17 rfl rfl)
theorem dX2_addChar_88 : decode cX2_addChar 88 = .ok (.dup, 1) := dk_89 (dk_at dksX2_addChar_3 20 rfl rfl)
theorem dX2_addChar_89 : decode cX2_addChar 89 = .ok (.invokespecial 27, 3) := dk_183 0 27 (dk_at dksX2_addChar_3 21 rfl rfl)
theorem dX2_addChar_92 : decode cX2_addChar 92 = .ok (.athrow, 1) := dk_191 (dk_at dksX2_addChar_4 0 rfl rfl)
theorem dX2_addChar_93 : decode cX2_addChar 93 = .ok (.aload_n 0, 1) := dk_42 (dk_at dksX2_addChar_4 1 rfl rfl)
theorem dX2_addChar_94 : decode cX2_addChar 94 = .ok (.getfield 12, 3) := dk_180 0 12 (dk_at dksX2_addChar_4 2 rfl rfl)
theorem dX2_addChar_97 : decode cX2_addChar 97 = .ok (.iload_n 1, 1) := dk_27 (dk_at dksX2_addChar_4 5 rfl rfl)
theorem dX2_addChar_98 : decode cX2_addChar 98 = .ok (.invokevirtual 88, 3) := dk_182 0 88 (dk_at dksX2_addChar_4 6 rfl rfl)
theorem dX2_addChar_101 : decode cX2_addChar 101 = .ok (.pop, 1) := dk_87 (dk_at dksX2_addChar_4 9 rfl rfl)
theorem dX2_addChar_102 : decode cX2_addChar 102 = .ok (.return_, 1) := dk_177 (dk_at dksX2_addChar_4 10 rfl rfl)
abbrev cX2_at : ByteArray := prog_12_method_11_code
def yX2_at : MethodName := ⟨RX2, "at", "(I)I"⟩
def dkwX2_at_0 : List UInt8 := [42, 180, 0, 12, 27, 182, 0, 39, 172]
abbrev dktX2_at_0 : List UInt8 := dkwX2_at_0 ++ []
theorem dksX2_at_0 : cX2_at.data.toList.drop 0 = dktX2_at_0 := by decide +kernel
theorem dX2_at_0 : decode cX2_at 0 = .ok (.aload_n 0, 1) := dk_42 (dk_at dksX2_at_0 0 rfl rfl)
theorem dX2_at_1 : decode cX2_at 1 = .ok (.getfield 12, 3) := dk_180 0 12 (dk_at dksX2_at_0 1 rfl rfl)
theorem dX2_at_4 : decode cX2_at 4 = .ok (.iload_n 1, 1) := dk_27 (dk_at dksX2_at_0 4 rfl rfl)
theorem dX2_at_5 : decode cX2_at 5 = .ok (.invokevirtual 39, 3) := dk_182 0 39 (dk_at dksX2_at_0 5 rfl rfl)
theorem dX2_at_8 : decode cX2_at 8 = .ok (.ireturn, 1) := dk_172 (dk_at dksX2_at_0 8 rfl rfl)
theorem q92 : (Jvm.Cond.initialized "TemplateEngine$Output") ∈ lw_all := lw_g (lw_at lw_m1 21 rfl) rfl
theorem q483 : (Jvm.Cond.instantiable "TemplateEngine$Output" (1 : Nat)) ∈ lw_all := lw_g (lw_at lw_m2 172 rfl) rfl
theorem q485 : (Jvm.Cond.instanceMethod ({ cls := "TemplateEngine$Output", name := "<init>", desc := "()V" } : Jvm.MethodName)) ∈ lw_all := lw_g (lw_at lw_m2 174 rfl) rfl
theorem q486 : (Jvm.Cond.code ({ cls := "TemplateEngine$Output", name := "<init>", desc := "()V" } : Jvm.MethodName) prog_12_method_1_code (1 : Nat) (Option.none : Option Jvm.ClassFile.FieldType)) ∈ lw_all := lw_g (lw_at lw_m2 175 rfl) rfl
theorem q487 : (Jvm.Cond.methodLink "TemplateEngine$Output" (3 : Nat) ({ cls := "java/lang/Object", name := "<init>", desc := "()V" } : Jvm.MethodName)) ∈ lw_all := lw_g (lw_at lw_m2 176 rfl) rfl
theorem q488 : (Jvm.Cond.classLink "TemplateEngine$Output" (9 : Nat) "java/lang/StringBuilder") ∈ lw_all := lw_g (lw_at lw_m2 177 rfl) rfl
theorem q489 : (Jvm.Cond.methodLink "TemplateEngine$Output" (11 : Nat) ({ cls := "java/lang/StringBuilder", name := "<init>", desc := "()V" } : Jvm.MethodName)) ∈ lw_all := lw_g (lw_at lw_m2 178 rfl) rfl
theorem q490 : (Jvm.Cond.fieldLink "TemplateEngine$Output" (12 : Nat) "TemplateEngine$Output" "text" "Ljava/lang/StringBuilder;") ∈ lw_all := lw_g (lw_at lw_m2 179 rfl) rfl
theorem q491 : (Jvm.Cond.laysFinal "TemplateEngine$Output" "TemplateEngine$Output" "text" "Ljava/lang/StringBuilder;") ∈ lw_all := lw_g (lw_at lw_m2 180 rfl) rfl
theorem q492 : (Jvm.Cond.soleField "TemplateEngine$Output" "text") ∈ lw_all := lw_g (lw_at lw_m2 181 rfl) rfl
theorem q493 : (Jvm.Cond.superclass "TemplateEngine$Output" "java/lang/Object") ∈ lw_all := lw_g (lw_at lw_m2 182 rfl) rfl
theorem q534 : (Jvm.Cond.instanceMethod ({ cls := "TemplateEngine$Output", name := "length", desc := "()I" } : Jvm.MethodName)) ∈ lw_all := lw_g (lw_at lw_m2 223 rfl) rfl
theorem q535 : (Jvm.Cond.selects "TemplateEngine$Output" ({ cls := "TemplateEngine$Output", name := "length", desc := "()I" } : Jvm.MethodName) ({ cls := "TemplateEngine$Output", name := "length", desc := "()I" } : Jvm.MethodName)) ∈ lw_all := lw_g (lw_at lw_m2 224 rfl) rfl
theorem q536 : (Jvm.Cond.code ({ cls := "TemplateEngine$Output", name := "length", desc := "()I" } : Jvm.MethodName) prog_12_method_10_code (1 : Nat) (Option.some Jvm.ClassFile.FieldType.int)) ∈ lw_all := lw_g (lw_at lw_m2 225 rfl) rfl
theorem q537 : (Jvm.Cond.methodLink "TemplateEngine$Output" (18 : Nat) ({ cls := "java/lang/StringBuilder", name := "length", desc := "()I" } : Jvm.MethodName)) ∈ lw_all := lw_g (lw_at lw_m2 226 rfl) rfl
theorem q665 : (Jvm.Cond.selects "TemplateEngine$Output" ({ cls := "java/lang/Object", name := "getClass", desc := "()Ljava/lang/Class;" } : Jvm.MethodName) ({ cls := "java/lang/Object", name := "getClass", desc := "()Ljava/lang/Class;" } : Jvm.MethodName)) ∈ lw_all := lw_g (lw_at lw_m3 114 rfl) rfl
theorem q1563 : (Jvm.Cond.instanceMethod ({ cls := "TemplateEngine$Output", name := "inCapitals", desc := "(LTemplateEngine$Data;)LTemplateEngine$TextData;" } : Jvm.MethodName)) ∈ lw_all := lw_g (lw_at lw_m7 52 rfl) rfl
theorem q1564 : (Jvm.Cond.selects "TemplateEngine$Output" ({ cls := "TemplateEngine$Output", name := "inCapitals", desc := "(LTemplateEngine$Data;)LTemplateEngine$TextData;" } : Jvm.MethodName) ({ cls := "TemplateEngine$Output", name := "inCapitals", desc := "(LTemplateEngine$Data;)LTemplateEngine$TextData;" } : Jvm.MethodName)) ∈ lw_all := lw_g (lw_at lw_m7 53 rfl) rfl
theorem q1565 : (Jvm.Cond.code ({ cls := "TemplateEngine$Output", name := "inCapitals", desc := "(LTemplateEngine$Data;)LTemplateEngine$TextData;" } : Jvm.MethodName) prog_12_method_8_code (2 : Nat) (Option.some (Jvm.ClassFile.FieldType.object "TemplateEngine$TextData"))) ∈ lw_all := lw_g (lw_at lw_m7 54 rfl) rfl
theorem q1566 : (Jvm.Cond.methodLink "TemplateEngine$Output" (61 : Nat) ({ cls := "TemplateEngine$Output", name := "of", desc := "(LTemplateEngine$Data;)LTemplateEngine$Output;" } : Jvm.MethodName)) ∈ lw_all := lw_g (lw_at lw_m7 55 rfl) rfl
theorem q1567 : (Jvm.Cond.instanceMethod ({ cls := "TemplateEngine$Output", name := "of", desc := "(LTemplateEngine$Data;)LTemplateEngine$Output;" } : Jvm.MethodName)) ∈ lw_all := lw_g (lw_at lw_m7 56 rfl) rfl
theorem q1568 : (Jvm.Cond.selects "TemplateEngine$Output" ({ cls := "TemplateEngine$Output", name := "of", desc := "(LTemplateEngine$Data;)LTemplateEngine$Output;" } : Jvm.MethodName) ({ cls := "TemplateEngine$Output", name := "of", desc := "(LTemplateEngine$Data;)LTemplateEngine$Output;" } : Jvm.MethodName)) ∈ lw_all := lw_g (lw_at lw_m7 57 rfl) rfl
theorem q1569 : (Jvm.Cond.code ({ cls := "TemplateEngine$Output", name := "of", desc := "(LTemplateEngine$Data;)LTemplateEngine$Output;" } : Jvm.MethodName) prog_12_method_5_code (2 : Nat) (Option.some (Jvm.ClassFile.FieldType.object "TemplateEngine$Output"))) ∈ lw_all := lw_g (lw_at lw_m7 58 rfl) rfl
theorem q1570 : (Jvm.Cond.methodLink "TemplateEngine$Output" (47 : Nat) ({ cls := "java/lang/StringBuilder", name := "setLength", desc := "(I)V" } : Jvm.MethodName)) ∈ lw_all := lw_g (lw_at lw_m7 59 rfl) rfl
theorem q1571 : (Jvm.Cond.methodLink "TemplateEngine$Output" (51 : Nat) ({ cls := "TemplateEngine$Data", name := "write", desc := "(LTemplateEngine$Output;)V" } : Jvm.MethodName)) ∈ lw_all := lw_g (lw_at lw_m7 60 rfl) rfl
theorem q1583 : (Jvm.Cond.instanceMethod ({ cls := "TemplateEngine$Output", name := "add", desc := "(Ljava/lang/String;)V" } : Jvm.MethodName)) ∈ lw_all := lw_g (lw_at lw_m7 72 rfl) rfl
theorem q1584 : (Jvm.Cond.selects "TemplateEngine$Output" ({ cls := "TemplateEngine$Output", name := "add", desc := "(Ljava/lang/String;)V" } : Jvm.MethodName) ({ cls := "TemplateEngine$Output", name := "add", desc := "(Ljava/lang/String;)V" } : Jvm.MethodName)) ∈ lw_all := lw_g (lw_at lw_m7 73 rfl) rfl
theorem q1585 : (Jvm.Cond.code ({ cls := "TemplateEngine$Output", name := "add", desc := "(Ljava/lang/String;)V" } : Jvm.MethodName) prog_12_method_2_code (2 : Nat) (Option.none : Option Jvm.ClassFile.FieldType)) ∈ lw_all := lw_g (lw_at lw_m7 74 rfl) rfl
theorem q1586 : (Jvm.Cond.methodLink "TemplateEngine$Output" (22 : Nat) ({ cls := "java/lang/String", name := "length", desc := "()I" } : Jvm.MethodName)) ∈ lw_all := lw_g (lw_at lw_m7 75 rfl) rfl
theorem q1587 : (Jvm.Cond.classLink "TemplateEngine$Output" (25 : Nat) "java/lang/IllegalStateException") ∈ lw_all := lw_g (lw_at lw_m7 76 rfl) rfl
theorem q1588 : (Jvm.Cond.methodLink "TemplateEngine$Output" (27 : Nat) ({ cls := "java/lang/IllegalStateException", name := "<init>", desc := "()V" } : Jvm.MethodName)) ∈ lw_all := lw_g (lw_at lw_m7 77 rfl) rfl
theorem q1589 : (Jvm.Cond.methodLink "TemplateEngine$Output" (28 : Nat) ({ cls := "java/lang/StringBuilder", name := "append", desc := "(Ljava/lang/String;)Ljava/lang/StringBuilder;" } : Jvm.MethodName)) ∈ lw_all := lw_g (lw_at lw_m7 78 rfl) rfl
theorem q1598 : (Jvm.Cond.instanceMethod ({ cls := "TemplateEngine$Output", name := "addNumber", desc := "(I)V" } : Jvm.MethodName)) ∈ lw_all := lw_g (lw_at lw_m7 87 rfl) rfl
theorem q1599 : (Jvm.Cond.selects "TemplateEngine$Output" ({ cls := "TemplateEngine$Output", name := "addNumber", desc := "(I)V" } : Jvm.MethodName) ({ cls := "TemplateEngine$Output", name := "addNumber", desc := "(I)V" } : Jvm.MethodName)) ∈ lw_all := lw_g (lw_at lw_m7 88 rfl) rfl
theorem q1600 : (Jvm.Cond.code ({ cls := "TemplateEngine$Output", name := "addNumber", desc := "(I)V" } : Jvm.MethodName) prog_12_method_3_code (2 : Nat) (Option.none : Option Jvm.ClassFile.FieldType)) ∈ lw_all := lw_g (lw_at lw_m7 89 rfl) rfl
theorem q1601 : (Jvm.Cond.methodLinkNest "TemplateEngine$Output" (32 : Nat) ({ cls := "TemplateEngine", name := "digits", desc := "(I)I" } : Jvm.MethodName) "TemplateEngine") ∈ lw_tbl := lw_at lw_m7 90 rfl
theorem q1604 : (Jvm.Cond.methodLink "TemplateEngine$Output" (36 : Nat) ({ cls := "java/lang/StringBuilder", name := "append", desc := "(I)Ljava/lang/StringBuilder;" } : Jvm.MethodName)) ∈ lw_all := lw_g (lw_at lw_m7 93 rfl) rfl
theorem q1609 : (Jvm.Cond.instanceMethod ({ cls := "TemplateEngine$Output", name := "capitals", desc := "(I)V" } : Jvm.MethodName)) ∈ lw_all := lw_g (lw_at lw_m7 98 rfl) rfl
theorem q1610 : (Jvm.Cond.selects "TemplateEngine$Output" ({ cls := "TemplateEngine$Output", name := "capitals", desc := "(I)V" } : Jvm.MethodName) ({ cls := "TemplateEngine$Output", name := "capitals", desc := "(I)V" } : Jvm.MethodName)) ∈ lw_all := lw_g (lw_at lw_m7 99 rfl) rfl
theorem q1611 : (Jvm.Cond.code ({ cls := "TemplateEngine$Output", name := "capitals", desc := "(I)V" } : Jvm.MethodName) prog_12_method_7_code (4 : Nat) (Option.none : Option Jvm.ClassFile.FieldType)) ∈ lw_all := lw_g (lw_at lw_m7 100 rfl) rfl
theorem q1612 : (Jvm.Cond.methodLink "TemplateEngine$Output" (39 : Nat) ({ cls := "java/lang/StringBuilder", name := "charAt", desc := "(I)C" } : Jvm.MethodName)) ∈ lw_all := lw_g (lw_at lw_m7 101 rfl) rfl
theorem q1622 : (Jvm.Cond.methodLink "TemplateEngine$Output" (57 : Nat) ({ cls := "java/lang/StringBuilder", name := "setCharAt", desc := "(IC)V" } : Jvm.MethodName)) ∈ lw_all := lw_g (lw_at lw_m7 111 rfl) rfl
theorem q1633 : (Jvm.Cond.methodLink "TemplateEngine$Output" (65 : Nat) ({ cls := "TemplateEngine$Output", name := "capitals", desc := "(I)V" } : Jvm.MethodName)) ∈ lw_all := lw_g (lw_at lw_m7 122 rfl) rfl
theorem q1634 : (Jvm.Cond.classLink "TemplateEngine$Output" (68 : Nat) "TemplateEngine$TextData") ∈ lw_all := lw_g (lw_at lw_m7 123 rfl) rfl
theorem q1635 : (Jvm.Cond.methodLink "TemplateEngine$Output" (70 : Nat) ({ cls := "java/lang/StringBuilder", name := "toString", desc := "()Ljava/lang/String;" } : Jvm.MethodName)) ∈ lw_all := lw_g (lw_at lw_m7 124 rfl) rfl
theorem q1636 : (Jvm.Cond.methodLink "TemplateEngine$Output" (74 : Nat) ({ cls := "TemplateEngine$TextData", name := "<init>", desc := "(Ljava/lang/String;)V" } : Jvm.MethodName)) ∈ lw_all := lw_g (lw_at lw_m7 125 rfl) rfl
theorem q1700 : (Jvm.Cond.instanceMethod ({ cls := "TemplateEngine$Output", name := "isLike", desc := "(LTemplateEngine$Output;)Z" } : Jvm.MethodName)) ∈ lw_all := lw_g (lw_at lw_m7 189 rfl) rfl
theorem q1701 : (Jvm.Cond.selects "TemplateEngine$Output" ({ cls := "TemplateEngine$Output", name := "isLike", desc := "(LTemplateEngine$Output;)Z" } : Jvm.MethodName) ({ cls := "TemplateEngine$Output", name := "isLike", desc := "(LTemplateEngine$Output;)Z" } : Jvm.MethodName)) ∈ lw_all := lw_g (lw_at lw_m7 190 rfl) rfl
theorem q1702 : (Jvm.Cond.code ({ cls := "TemplateEngine$Output", name := "isLike", desc := "(LTemplateEngine$Output;)Z" } : Jvm.MethodName) prog_12_method_6_code (3 : Nat) (Option.some Jvm.ClassFile.FieldType.boolean)) ∈ lw_all := lw_g (lw_at lw_m7 191 rfl) rfl
theorem q1753 : (Jvm.Cond.instanceMethod ({ cls := "TemplateEngine$Output", name := "addEscaped", desc := "(LTemplateEngine$Output;)V" } : Jvm.MethodName)) ∈ lw_all := lw_g (lw_at lw_m8 2 rfl) rfl
theorem q1754 : (Jvm.Cond.selects "TemplateEngine$Output" ({ cls := "TemplateEngine$Output", name := "addEscaped", desc := "(LTemplateEngine$Output;)V" } : Jvm.MethodName) ({ cls := "TemplateEngine$Output", name := "addEscaped", desc := "(LTemplateEngine$Output;)V" } : Jvm.MethodName)) ∈ lw_all := lw_g (lw_at lw_m8 3 rfl) rfl
theorem q1755 : (Jvm.Cond.code ({ cls := "TemplateEngine$Output", name := "addEscaped", desc := "(LTemplateEngine$Output;)V" } : Jvm.MethodName) prog_12_method_4_code (3 : Nat) (Option.none : Option Jvm.ClassFile.FieldType)) ∈ lw_all := lw_g (lw_at lw_m8 4 rfl) rfl
theorem q1756 : (Jvm.Cond.methodLink "TemplateEngine$Output" (43 : Nat) ({ cls := "TemplateEngine$Output", name := "addChar", desc := "(C)V" } : Jvm.MethodName)) ∈ lw_all := lw_g (lw_at lw_m8 5 rfl) rfl
theorem q1757 : (Jvm.Cond.privateMethod ({ cls := "TemplateEngine$Output", name := "addChar", desc := "(C)V" } : Jvm.MethodName)) ∈ lw_tbl := lw_at lw_m8 6 rfl
theorem q1758 : (Jvm.Cond.instanceMethod ({ cls := "TemplateEngine$Output", name := "addChar", desc := "(C)V" } : Jvm.MethodName)) ∈ lw_all := lw_g (lw_at lw_m8 7 rfl) rfl
theorem q1759 : (Jvm.Cond.code ({ cls := "TemplateEngine$Output", name := "addChar", desc := "(C)V" } : Jvm.MethodName) prog_12_method_9_code (2 : Nat) (Option.none : Option Jvm.ClassFile.FieldType)) ∈ lw_all := lw_g (lw_at lw_m8 8 rfl) rfl
theorem q1760 : (Jvm.Cond.stringRef "TemplateEngine$Output" (77 : Nat) "&amp;") ∈ lw_tbl := lw_at lw_m8 9 rfl
theorem q1761 : (Jvm.Cond.methodLink "TemplateEngine$Output" (79 : Nat) ({ cls := "TemplateEngine$Output", name := "add", desc := "(Ljava/lang/String;)V" } : Jvm.MethodName)) ∈ lw_all := lw_g (lw_at lw_m8 10 rfl) rfl
theorem q1762 : (Jvm.Cond.stringRef "TemplateEngine$Output" (82 : Nat) "&lt;") ∈ lw_tbl := lw_at lw_m8 11 rfl
theorem q1763 : (Jvm.Cond.stringRef "TemplateEngine$Output" (84 : Nat) "&gt;") ∈ lw_tbl := lw_at lw_m8 12 rfl
theorem q1764 : (Jvm.Cond.stringRef "TemplateEngine$Output" (86 : Nat) "&quot;") ∈ lw_tbl := lw_at lw_m8 13 rfl
theorem q1765 : (Jvm.Cond.methodLink "TemplateEngine$Output" (88 : Nat) ({ cls := "java/lang/StringBuilder", name := "append", desc := "(C)Ljava/lang/StringBuilder;" } : Jvm.MethodName)) ∈ lw_all := lw_g (lw_at lw_m8 14 rfl) rfl
theorem q1775 : (Jvm.Cond.instanceMethod ({ cls := "TemplateEngine$Output", name := "at", desc := "(I)I" } : Jvm.MethodName)) ∈ lw_all := lw_g (lw_at lw_m8 24 rfl) rfl
theorem q1776 : (Jvm.Cond.selects "TemplateEngine$Output" ({ cls := "TemplateEngine$Output", name := "at", desc := "(I)I" } : Jvm.MethodName) ({ cls := "TemplateEngine$Output", name := "at", desc := "(I)I" } : Jvm.MethodName)) ∈ lw_all := lw_g (lw_at lw_m8 25 rfl) rfl
theorem q1777 : (Jvm.Cond.code ({ cls := "TemplateEngine$Output", name := "at", desc := "(I)I" } : Jvm.MethodName) prog_12_method_11_code (2 : Nat) (Option.some Jvm.ClassFile.FieldType.int)) ∈ lw_all := lw_g (lw_at lw_m8 26 rfl) rfl
theorem q2292 : (Jvm.Cond.castable "TemplateEngine$Output" "java/lang/Object") ∈ lw_tbl := lw_at lw_m10 61 rfl
theorem in_X2 : ∀ w ∈ wsX20, w ∈ lw_all := lw_in wsX20 [491] (by decide +kernel) (by decide +kernel)

/-! TemplateEngine$Data -/
set_option maxRecDepth 100000
def RX4 : String := "TemplateEngine$Data"
abbrev cX4_init : ByteArray := prog_5_method_1_code
def yX4_init : MethodName := ⟨RX4, "<init>", "()V"⟩
theorem dX4_init_0 : decode cX4_init 0 = .ok (.aload_n 0, 1) := by decide +kernel
theorem dX4_init_1 : decode cX4_init 1 = .ok (.invokespecial 1, 3) := by decide +kernel
theorem dX4_init_4 : decode cX4_init 4 = .ok (.return_, 1) := by decide +kernel
abbrev cX4_contains : ByteArray := prog_5_method_9_code
def yX4_contains : MethodName := ⟨RX4, "contains", "(LTemplateEngine$Data;I)Z"⟩
def dkwX4_contains_2 : List UInt8 := [132, 3, 1, 167, 255, 230, 3, 172]
abbrev dktX4_contains_2 : List UInt8 := dkwX4_contains_2 ++ []
def dkwX4_contains_1 : List UInt8 := [29, 42, 182, 0, 13, 162, 0, 24, 42, 29, 182, 0, 17, 43, 28, 182, 0, 21, 153, 0, 5, 4, 172]
abbrev dktX4_contains_1 : List UInt8 := dkwX4_contains_1 ++ dktX4_contains_2
def dkwX4_contains_0 : List UInt8 := [42, 43, 166, 0, 5, 4, 172, 42, 180, 0, 7, 28, 160, 0, 5, 3, 172, 42, 28, 181, 0, 7, 3, 62]
abbrev dktX4_contains_0 : List UInt8 := dkwX4_contains_0 ++ dktX4_contains_1
theorem dksX4_contains_0 : cX4_contains.data.toList.drop 0 = dktX4_contains_0 := by decide +kernel
theorem dksX4_contains_1 : cX4_contains.data.toList.drop 24 = dktX4_contains_1 := dk_seg dksX4_contains_0 24 rfl rfl
theorem dksX4_contains_2 : cX4_contains.data.toList.drop 47 = dktX4_contains_2 := dk_seg dksX4_contains_1 23 rfl rfl
theorem dX4_contains_0 : decode cX4_contains 0 = .ok (.aload_n 0, 1) := dk_42 (dk_at dksX4_contains_0 0 rfl rfl)
theorem dX4_contains_1 : decode cX4_contains 1 = .ok (.aload_n 1, 1) := dk_43 (dk_at dksX4_contains_0 1 rfl rfl)
theorem dX4_contains_2 : decode cX4_contains 2 = .ok (.if_acmp .ne 5, 3) := dk_166 0 5 (dk_at dksX4_contains_0 2 rfl rfl)
theorem dX4_contains_5 : decode cX4_contains 5 = .ok (.iconst 1, 1) := dk_4 (dk_at dksX4_contains_0 5 rfl rfl)
theorem dX4_contains_6 : decode cX4_contains 6 = .ok (.ireturn, 1) := dk_172 (dk_at dksX4_contains_0 6 rfl rfl)
theorem dX4_contains_7 : decode cX4_contains 7 = .ok (.aload_n 0, 1) := dk_42 (dk_at dksX4_contains_0 7 rfl rfl)
theorem dX4_contains_8 : decode cX4_contains 8 = .ok (.getfield 7, 3) := dk_180 0 7 (dk_at dksX4_contains_0 8 rfl rfl)
theorem dX4_contains_11 : decode cX4_contains 11 = .ok (.iload_n 2, 1) := dk_28 (dk_at dksX4_contains_0 11 rfl rfl)
theorem dX4_contains_12 : decode cX4_contains 12 = .ok (.if_icmp .ne 5, 3) := dk_160 0 5 (dk_at dksX4_contains_0 12 rfl rfl)
theorem dX4_contains_15 : decode cX4_contains 15 = .ok (.iconst 0, 1) := dk_3 (dk_at dksX4_contains_0 15 rfl rfl)
theorem dX4_contains_16 : decode cX4_contains 16 = .ok (.ireturn, 1) := dk_172 (dk_at dksX4_contains_0 16 rfl rfl)
theorem dX4_contains_17 : decode cX4_contains 17 = .ok (.aload_n 0, 1) := dk_42 (dk_at dksX4_contains_0 17 rfl rfl)
theorem dX4_contains_18 : decode cX4_contains 18 = .ok (.iload_n 2, 1) := dk_28 (dk_at dksX4_contains_0 18 rfl rfl)
theorem dX4_contains_19 : decode cX4_contains 19 = .ok (.putfield 7, 3) := dk_181 0 7 (dk_at dksX4_contains_0 19 rfl rfl)
theorem dX4_contains_22 : decode cX4_contains 22 = .ok (.iconst 0, 1) := dk_3 (dk_at dksX4_contains_0 22 rfl rfl)
theorem dX4_contains_23 : decode cX4_contains 23 = .ok (.istore_n 3, 1) := dk_62 (dk_at dksX4_contains_0 23 rfl rfl)
theorem dX4_contains_24 : decode cX4_contains 24 = .ok (.iload_n 3, 1) := dk_29 (dk_at dksX4_contains_1 0 rfl rfl)
theorem dX4_contains_25 : decode cX4_contains 25 = .ok (.aload_n 0, 1) := dk_42 (dk_at dksX4_contains_1 1 rfl rfl)
theorem dX4_contains_26 : decode cX4_contains 26 = .ok (.invokevirtual 13, 3) := dk_182 0 13 (dk_at dksX4_contains_1 2 rfl rfl)
theorem dX4_contains_29 : decode cX4_contains 29 = .ok (.if_icmp .ge 24, 3) := dk_162 0 24 (dk_at dksX4_contains_1 5 rfl rfl)
theorem dX4_contains_32 : decode cX4_contains 32 = .ok (.aload_n 0, 1) := dk_42 (dk_at dksX4_contains_1 8 rfl rfl)
theorem dX4_contains_33 : decode cX4_contains 33 = .ok (.iload_n 3, 1) := dk_29 (dk_at dksX4_contains_1 9 rfl rfl)
theorem dX4_contains_34 : decode cX4_contains 34 = .ok (.invokevirtual 17, 3) := dk_182 0 17 (dk_at dksX4_contains_1 10 rfl rfl)
theorem dX4_contains_37 : decode cX4_contains 37 = .ok (.aload_n 1, 1) := dk_43 (dk_at dksX4_contains_1 13 rfl rfl)
theorem dX4_contains_38 : decode cX4_contains 38 = .ok (.iload_n 2, 1) := dk_28 (dk_at dksX4_contains_1 14 rfl rfl)
theorem dX4_contains_39 : decode cX4_contains 39 = .ok (.invokevirtual 21, 3) := dk_182 0 21 (dk_at dksX4_contains_1 15 rfl rfl)
theorem dX4_contains_42 : decode cX4_contains 42 = .ok (.ifCond .eq 5, 3) := dk_153 0 5 (dk_at dksX4_contains_1 18 rfl rfl)
theorem dX4_contains_45 : decode cX4_contains 45 = .ok (.iconst 1, 1) := dk_4 (dk_at dksX4_contains_1 21 rfl rfl)
theorem dX4_contains_46 : decode cX4_contains 46 = .ok (.ireturn, 1) := dk_172 (dk_at dksX4_contains_1 22 rfl rfl)
theorem dX4_contains_47 : decode cX4_contains 47 = .ok (.iinc 3 1, 3) := dk_132 3 1 (dk_at dksX4_contains_2 0 rfl rfl)
theorem dX4_contains_50 : decode cX4_contains 50 = .ok (.goto (-26), 3) := dk_167 255 230 (dk_at dksX4_contains_2 3 rfl rfl)
theorem dX4_contains_53 : decode cX4_contains 53 = .ok (.iconst 0, 1) := dk_3 (dk_at dksX4_contains_2 6 rfl rfl)
theorem dX4_contains_54 : decode cX4_contains 54 = .ok (.ireturn, 1) := dk_172 (dk_at dksX4_contains_2 7 rfl rfl)
abbrev cX4_turns : ByteArray := prog_5_method_8_code
def yX4_turns : MethodName := ⟨RX4, "turns", "()I"⟩
theorem dX4_turns_0 : decode cX4_turns 0 = .ok (.iconst 0, 1) := by decide +kernel
theorem dX4_turns_1 : decode cX4_turns 1 = .ok (.ireturn, 1) := by decide +kernel
abbrev cX4_element : ByteArray := prog_5_method_7_code
def yX4_element : MethodName := ⟨RX4, "element", "(I)LTemplateEngine$Data;"⟩
theorem dX4_element_0 : decode cX4_element 0 = .ok (.aconst_null, 1) := by decide +kernel
theorem dX4_element_1 : decode cX4_element 1 = .ok (.areturn, 1) := by decide +kernel
abbrev cX4_member : ByteArray := prog_5_method_6_code
def yX4_member : MethodName := ⟨RX4, "member", "(Ljava/lang/String;)LTemplateEngine$Data;"⟩
theorem dX4_member_0 : decode cX4_member 0 = .ok (.aconst_null, 1) := by decide +kernel
theorem dX4_member_1 : decode cX4_member 1 = .ok (.areturn, 1) := by decide +kernel
theorem q95 : (Jvm.Cond.initialized "TemplateEngine$Data") ∈ lw_all := lw_g (lw_at lw_m1 24 rfl) rfl
theorem q616 : (Jvm.Cond.instanceMethod ({ cls := "TemplateEngine$Data", name := "<init>", desc := "()V" } : Jvm.MethodName)) ∈ lw_all := lw_g (lw_at lw_m3 65 rfl) rfl
theorem q617 : (Jvm.Cond.code ({ cls := "TemplateEngine$Data", name := "<init>", desc := "()V" } : Jvm.MethodName) prog_5_method_1_code (1 : Nat) (Option.none : Option Jvm.ClassFile.FieldType)) ∈ lw_all := lw_g (lw_at lw_m3 66 rfl) rfl
theorem q618 : (Jvm.Cond.methodLink "TemplateEngine$Data" (1 : Nat) ({ cls := "java/lang/Object", name := "<init>", desc := "()V" } : Jvm.MethodName)) ∈ lw_all := lw_g (lw_at lw_m3 67 rfl) rfl
theorem q621 : (Jvm.Cond.fieldLink "TemplateEngine$Data" (7 : Nat) "TemplateEngine$Data" "asked" "I") ∈ lw_all := lw_g (lw_at lw_m3 70 rfl) rfl
theorem q625 : (Jvm.Cond.soleField "TemplateEngine$Data" "asked") ∈ lw_all := lw_g (lw_at lw_m3 74 rfl) rfl
theorem q881 : (Jvm.Cond.declares ({ cls := "TemplateEngine$Data", name := "kind", desc := "()I" } : Jvm.MethodName)) ∈ lw_tbl := lw_at lw_m4 90 rfl
theorem q882 : (Jvm.Cond.sameMethod "TemplateEngine$Data" "TemplateEngine$Data" "kind" "()I") ∈ lw_all := lw_g (lw_at lw_m4 91 rfl) rfl
theorem q899 : (Jvm.Cond.instanceMethod ({ cls := "TemplateEngine$Data", name := "contains", desc := "(LTemplateEngine$Data;I)Z" } : Jvm.MethodName)) ∈ lw_all := lw_g (lw_at lw_m4 108 rfl) rfl
theorem q900 : (Jvm.Cond.sameMethod "TemplateEngine$Data" "TemplateEngine$Data" "contains" "(LTemplateEngine$Data;I)Z") ∈ lw_all := lw_g (lw_at lw_m4 109 rfl) rfl
theorem q906 : (Jvm.Cond.code ({ cls := "TemplateEngine$Data", name := "contains", desc := "(LTemplateEngine$Data;I)Z" } : Jvm.MethodName) prog_5_method_9_code (4 : Nat) (Option.some Jvm.ClassFile.FieldType.boolean)) ∈ lw_all := lw_g (lw_at lw_m4 115 rfl) rfl
theorem q907 : (Jvm.Cond.methodLink "TemplateEngine$Data" (13 : Nat) ({ cls := "TemplateEngine$Data", name := "turns", desc := "()I" } : Jvm.MethodName)) ∈ lw_all := lw_g (lw_at lw_m4 116 rfl) rfl
theorem q908 : (Jvm.Cond.instanceMethod ({ cls := "TemplateEngine$Data", name := "turns", desc := "()I" } : Jvm.MethodName)) ∈ lw_all := lw_g (lw_at lw_m4 117 rfl) rfl
theorem q909 : (Jvm.Cond.sameMethod "TemplateEngine$Data" "TemplateEngine$Data" "turns" "()I") ∈ lw_all := lw_g (lw_at lw_m4 118 rfl) rfl
theorem q917 : (Jvm.Cond.code ({ cls := "TemplateEngine$Data", name := "turns", desc := "()I" } : Jvm.MethodName) prog_5_method_8_code (1 : Nat) (Option.some Jvm.ClassFile.FieldType.int)) ∈ lw_all := lw_g (lw_at lw_m4 126 rfl) rfl
theorem q918 : (Jvm.Cond.methodLink "TemplateEngine$Data" (17 : Nat) ({ cls := "TemplateEngine$Data", name := "element", desc := "(I)LTemplateEngine$Data;" } : Jvm.MethodName)) ∈ lw_all := lw_g (lw_at lw_m4 127 rfl) rfl
theorem q919 : (Jvm.Cond.instanceMethod ({ cls := "TemplateEngine$Data", name := "element", desc := "(I)LTemplateEngine$Data;" } : Jvm.MethodName)) ∈ lw_all := lw_g (lw_at lw_m4 128 rfl) rfl
theorem q920 : (Jvm.Cond.sameMethod "TemplateEngine$Data" "TemplateEngine$Data" "element" "(I)LTemplateEngine$Data;") ∈ lw_all := lw_g (lw_at lw_m4 129 rfl) rfl
theorem q928 : (Jvm.Cond.code ({ cls := "TemplateEngine$Data", name := "element", desc := "(I)LTemplateEngine$Data;" } : Jvm.MethodName) prog_5_method_7_code (2 : Nat) (Option.some (Jvm.ClassFile.FieldType.object "TemplateEngine$Data"))) ∈ lw_all := lw_g (lw_at lw_m4 137 rfl) rfl
theorem q929 : (Jvm.Cond.methodLink "TemplateEngine$Data" (21 : Nat) ({ cls := "TemplateEngine$Data", name := "contains", desc := "(LTemplateEngine$Data;I)Z" } : Jvm.MethodName)) ∈ lw_all := lw_g (lw_at lw_m4 138 rfl) rfl
theorem q1528 : (Jvm.Cond.instanceMethod ({ cls := "TemplateEngine$Data", name := "member", desc := "(Ljava/lang/String;)LTemplateEngine$Data;" } : Jvm.MethodName)) ∈ lw_all := lw_g (lw_at lw_m7 17 rfl) rfl
theorem q1529 : (Jvm.Cond.sameMethod "TemplateEngine$Data" "TemplateEngine$Data" "member" "(Ljava/lang/String;)LTemplateEngine$Data;") ∈ lw_all := lw_g (lw_at lw_m7 18 rfl) rfl
theorem q1541 : (Jvm.Cond.code ({ cls := "TemplateEngine$Data", name := "member", desc := "(Ljava/lang/String;)LTemplateEngine$Data;" } : Jvm.MethodName) prog_5_method_6_code (2 : Nat) (Option.some (Jvm.ClassFile.FieldType.object "TemplateEngine$Data"))) ∈ lw_all := lw_g (lw_at lw_m7 30 rfl) rfl
theorem q1572 : (Jvm.Cond.declares ({ cls := "TemplateEngine$Data", name := "write", desc := "(LTemplateEngine$Output;)V" } : Jvm.MethodName)) ∈ lw_tbl := lw_at lw_m7 61 rfl
theorem q1573 : (Jvm.Cond.sameMethod "TemplateEngine$Data" "TemplateEngine$Data" "write" "(LTemplateEngine$Output;)V") ∈ lw_all := lw_g (lw_at lw_m7 62 rfl) rfl
theorem q1655 : (Jvm.Cond.declares ({ cls := "TemplateEngine$Data", name := "size", desc := "()I" } : Jvm.MethodName)) ∈ lw_tbl := lw_at lw_m7 144 rfl
theorem q1656 : (Jvm.Cond.sameMethod "TemplateEngine$Data" "TemplateEngine$Data" "size" "()I") ∈ lw_all := lw_g (lw_at lw_m7 145 rfl) rfl
theorem q1677 : (Jvm.Cond.declares ({ cls := "TemplateEngine$Data", name := "isFalse", desc := "()Z" } : Jvm.MethodName)) ∈ lw_tbl := lw_at lw_m7 166 rfl
theorem q1678 : (Jvm.Cond.sameMethod "TemplateEngine$Data" "TemplateEngine$Data" "isFalse" "()Z") ∈ lw_all := lw_g (lw_at lw_m7 167 rfl) rfl
theorem q2285 : (Jvm.Cond.castable "TemplateEngine$Data" "java/lang/Object") ∈ lw_tbl := lw_at lw_m10 54 rfl

/-! TemplateEngine$NumberData -/
set_option maxRecDepth 100000
def RX5 : String := "TemplateEngine$NumberData"
def TX5 : u_T := fun k => match k with
  | 0 => ("TemplateEngine$Data", "asked", "I", false)
  | _ => ("TemplateEngine$NumberData", "v", "I", true)
def tyX5 : Nat → FieldType := fun k => match k with
  | 0 => .int
  | _ => .int
abbrev wsX50 : List Cond := u_ws RX5 TX5 2
theorem nmX5 : ∀ a, a < 2 → ∀ b, b < 2 → a ≠ b → (TX5 a).2.1 ≠ (TX5 b).2.1 := by decide +kernel
theorem tyX5_ok : ∀ k, k < 2 → parseFieldDescriptor (TX5 k).2.2.1 = some (tyX5 k) := by decide +kernel
abbrev cX5_init : ByteArray := prog_10_method_1_code
def yX5_init : MethodName := ⟨RX5, "<init>", "(I)V"⟩
def dkwX5_init_0 : List UInt8 := [42, 183, 0, 1, 42, 27, 181, 0, 7, 177]
abbrev dktX5_init_0 : List UInt8 := dkwX5_init_0 ++ []
theorem dksX5_init_0 : cX5_init.data.toList.drop 0 = dktX5_init_0 := by decide +kernel
theorem dX5_init_0 : decode cX5_init 0 = .ok (.aload_n 0, 1) := dk_42 (dk_at dksX5_init_0 0 rfl rfl)
theorem dX5_init_1 : decode cX5_init 1 = .ok (.invokespecial 1, 3) := dk_183 0 1 (dk_at dksX5_init_0 1 rfl rfl)
theorem dX5_init_4 : decode cX5_init 4 = .ok (.aload_n 0, 1) := dk_42 (dk_at dksX5_init_0 4 rfl rfl)
theorem dX5_init_5 : decode cX5_init 5 = .ok (.iload_n 1, 1) := dk_27 (dk_at dksX5_init_0 5 rfl rfl)
theorem dX5_init_6 : decode cX5_init 6 = .ok (.putfield 7, 3) := dk_181 0 7 (dk_at dksX5_init_0 6 rfl rfl)
theorem dX5_init_9 : decode cX5_init 9 = .ok (.return_, 1) := dk_177 (dk_at dksX5_init_0 9 rfl rfl)
abbrev cX5_kind : ByteArray := prog_10_method_2_code
def yX5_kind : MethodName := ⟨RX5, "kind", "()I"⟩
theorem dX5_kind_0 : decode cX5_kind 0 = .ok (.iconst 0, 1) := by decide +kernel
theorem dX5_kind_1 : decode cX5_kind 1 = .ok (.ireturn, 1) := by decide +kernel
abbrev cX5_write : ByteArray := prog_10_method_5_code
def yX5_write : MethodName := ⟨RX5, "write", "(LTemplateEngine$Output;)V"⟩
def dkwX5_write_0 : List UInt8 := [43, 42, 180, 0, 7, 182, 0, 19, 177]
abbrev dktX5_write_0 : List UInt8 := dkwX5_write_0 ++ []
theorem dksX5_write_0 : cX5_write.data.toList.drop 0 = dktX5_write_0 := by decide +kernel
theorem dX5_write_0 : decode cX5_write 0 = .ok (.aload_n 1, 1) := dk_43 (dk_at dksX5_write_0 0 rfl rfl)
theorem dX5_write_1 : decode cX5_write 1 = .ok (.aload_n 0, 1) := dk_42 (dk_at dksX5_write_0 1 rfl rfl)
theorem dX5_write_2 : decode cX5_write 2 = .ok (.getfield 7, 3) := dk_180 0 7 (dk_at dksX5_write_0 2 rfl rfl)
theorem dX5_write_5 : decode cX5_write 5 = .ok (.invokevirtual 19, 3) := dk_182 0 19 (dk_at dksX5_write_0 5 rfl rfl)
theorem dX5_write_8 : decode cX5_write 8 = .ok (.return_, 1) := dk_177 (dk_at dksX5_write_0 8 rfl rfl)
abbrev cX5_size : ByteArray := prog_10_method_3_code
def yX5_size : MethodName := ⟨RX5, "size", "()I"⟩
def dkwX5_size_0 : List UInt8 := [42, 180, 0, 7, 184, 0, 13, 172]
abbrev dktX5_size_0 : List UInt8 := dkwX5_size_0 ++ []
theorem dksX5_size_0 : cX5_size.data.toList.drop 0 = dktX5_size_0 := by decide +kernel
theorem dX5_size_0 : decode cX5_size 0 = .ok (.aload_n 0, 1) := dk_42 (dk_at dksX5_size_0 0 rfl rfl)
theorem dX5_size_1 : decode cX5_size 1 = .ok (.getfield 7, 3) := dk_180 0 7 (dk_at dksX5_size_0 1 rfl rfl)
theorem dX5_size_4 : decode cX5_size 4 = .ok (.invokestatic 13, 3) := dk_184 0 13 (dk_at dksX5_size_0 4 rfl rfl)
theorem dX5_size_7 : decode cX5_size 7 = .ok (.ireturn, 1) := dk_172 (dk_at dksX5_size_0 7 rfl rfl)
abbrev cX5_isFalse : ByteArray := prog_10_method_4_code
def yX5_isFalse : MethodName := ⟨RX5, "isFalse", "()Z"⟩
def dkwX5_isFalse_0 : List UInt8 := [42, 180, 0, 7, 154, 0, 7, 4, 167, 0, 4, 3, 172]
abbrev dktX5_isFalse_0 : List UInt8 := dkwX5_isFalse_0 ++ []
theorem dksX5_isFalse_0 : cX5_isFalse.data.toList.drop 0 = dktX5_isFalse_0 := by decide +kernel
theorem dX5_isFalse_0 : decode cX5_isFalse 0 = .ok (.aload_n 0, 1) := dk_42 (dk_at dksX5_isFalse_0 0 rfl rfl)
theorem dX5_isFalse_1 : decode cX5_isFalse 1 = .ok (.getfield 7, 3) := dk_180 0 7 (dk_at dksX5_isFalse_0 1 rfl rfl)
theorem dX5_isFalse_4 : decode cX5_isFalse 4 = .ok (.ifCond .ne 7, 3) := dk_154 0 7 (dk_at dksX5_isFalse_0 4 rfl rfl)
theorem dX5_isFalse_7 : decode cX5_isFalse 7 = .ok (.iconst 1, 1) := dk_4 (dk_at dksX5_isFalse_0 7 rfl rfl)
theorem dX5_isFalse_8 : decode cX5_isFalse 8 = .ok (.goto 4, 3) := dk_167 0 4 (dk_at dksX5_isFalse_0 8 rfl rfl)
theorem dX5_isFalse_11 : decode cX5_isFalse 11 = .ok (.iconst 0, 1) := dk_3 (dk_at dksX5_isFalse_0 11 rfl rfl)
theorem dX5_isFalse_12 : decode cX5_isFalse 12 = .ok (.ireturn, 1) := dk_172 (dk_at dksX5_isFalse_0 12 rfl rfl)
theorem q96 : (Jvm.Cond.initialized "TemplateEngine$NumberData") ∈ lw_all := lw_g (lw_at lw_m1 25 rfl) rfl
theorem q611 : (Jvm.Cond.instantiable "TemplateEngine$NumberData" (2 : Nat)) ∈ lw_all := lw_g (lw_at lw_m3 60 rfl) rfl
theorem q613 : (Jvm.Cond.instanceMethod ({ cls := "TemplateEngine$NumberData", name := "<init>", desc := "(I)V" } : Jvm.MethodName)) ∈ lw_all := lw_g (lw_at lw_m3 62 rfl) rfl
theorem q614 : (Jvm.Cond.code ({ cls := "TemplateEngine$NumberData", name := "<init>", desc := "(I)V" } : Jvm.MethodName) prog_10_method_1_code (2 : Nat) (Option.none : Option Jvm.ClassFile.FieldType)) ∈ lw_all := lw_g (lw_at lw_m3 63 rfl) rfl
theorem q615 : (Jvm.Cond.methodLinkNest "TemplateEngine$NumberData" (1 : Nat) ({ cls := "TemplateEngine$Data", name := "<init>", desc := "()V" } : Jvm.MethodName) "TemplateEngine") ∈ lw_tbl := lw_at lw_m3 64 rfl
theorem q619 : (Jvm.Cond.fieldLink "TemplateEngine$NumberData" (7 : Nat) "TemplateEngine$NumberData" "v" "I") ∈ lw_all := lw_g (lw_at lw_m3 68 rfl) rfl
theorem q622 : (Jvm.Cond.laysFinal "TemplateEngine$NumberData" "TemplateEngine$NumberData" "v" "I") ∈ lw_all := lw_g (lw_at lw_m3 71 rfl) rfl
theorem q623 : (Jvm.Cond.soleField "TemplateEngine$NumberData" "v") ∈ lw_all := lw_g (lw_at lw_m3 72 rfl) rfl
theorem q624 : (Jvm.Cond.lays "TemplateEngine$NumberData" "TemplateEngine$Data" "asked" "I") ∈ lw_all := lw_g (lw_at lw_m3 73 rfl) rfl
theorem q626 : (Jvm.Cond.superclass "TemplateEngine$NumberData" "TemplateEngine$Data") ∈ lw_all := lw_g (lw_at lw_m3 75 rfl) rfl
theorem q664 : (Jvm.Cond.selects "TemplateEngine$NumberData" ({ cls := "java/lang/Object", name := "getClass", desc := "()Ljava/lang/Class;" } : Jvm.MethodName) ({ cls := "java/lang/Object", name := "getClass", desc := "()Ljava/lang/Class;" } : Jvm.MethodName)) ∈ lw_all := lw_g (lw_at lw_m3 113 rfl) rfl
theorem q892 : (Jvm.Cond.selects "TemplateEngine$NumberData" ({ cls := "TemplateEngine$Data", name := "kind", desc := "()I" } : Jvm.MethodName) ({ cls := "TemplateEngine$NumberData", name := "kind", desc := "()I" } : Jvm.MethodName)) ∈ lw_all := lw_g (lw_at lw_m4 101 rfl) rfl
theorem q893 : (Jvm.Cond.instanceMethod ({ cls := "TemplateEngine$NumberData", name := "kind", desc := "()I" } : Jvm.MethodName)) ∈ lw_all := lw_g (lw_at lw_m4 102 rfl) rfl
theorem q894 : (Jvm.Cond.code ({ cls := "TemplateEngine$NumberData", name := "kind", desc := "()I" } : Jvm.MethodName) prog_10_method_2_code (1 : Nat) (Option.some Jvm.ClassFile.FieldType.int)) ∈ lw_all := lw_g (lw_at lw_m4 103 rfl) rfl
theorem q904 : (Jvm.Cond.selects "TemplateEngine$NumberData" ({ cls := "TemplateEngine$Data", name := "contains", desc := "(LTemplateEngine$Data;I)Z" } : Jvm.MethodName) ({ cls := "TemplateEngine$Data", name := "contains", desc := "(LTemplateEngine$Data;I)Z" } : Jvm.MethodName)) ∈ lw_all := lw_g (lw_at lw_m4 113 rfl) rfl
theorem q915 : (Jvm.Cond.selects "TemplateEngine$NumberData" ({ cls := "TemplateEngine$Data", name := "turns", desc := "()I" } : Jvm.MethodName) ({ cls := "TemplateEngine$Data", name := "turns", desc := "()I" } : Jvm.MethodName)) ∈ lw_all := lw_g (lw_at lw_m4 124 rfl) rfl
theorem q926 : (Jvm.Cond.selects "TemplateEngine$NumberData" ({ cls := "TemplateEngine$Data", name := "element", desc := "(I)LTemplateEngine$Data;" } : Jvm.MethodName) ({ cls := "TemplateEngine$Data", name := "element", desc := "(I)LTemplateEngine$Data;" } : Jvm.MethodName)) ∈ lw_all := lw_g (lw_at lw_m4 135 rfl) rfl
theorem q1539 : (Jvm.Cond.selects "TemplateEngine$NumberData" ({ cls := "TemplateEngine$Data", name := "member", desc := "(Ljava/lang/String;)LTemplateEngine$Data;" } : Jvm.MethodName) ({ cls := "TemplateEngine$Data", name := "member", desc := "(Ljava/lang/String;)LTemplateEngine$Data;" } : Jvm.MethodName)) ∈ lw_all := lw_g (lw_at lw_m7 28 rfl) rfl
theorem q1595 : (Jvm.Cond.instanceMethod ({ cls := "TemplateEngine$NumberData", name := "write", desc := "(LTemplateEngine$Output;)V" } : Jvm.MethodName)) ∈ lw_all := lw_g (lw_at lw_m7 84 rfl) rfl
theorem q1596 : (Jvm.Cond.code ({ cls := "TemplateEngine$NumberData", name := "write", desc := "(LTemplateEngine$Output;)V" } : Jvm.MethodName) prog_10_method_5_code (2 : Nat) (Option.none : Option Jvm.ClassFile.FieldType)) ∈ lw_all := lw_g (lw_at lw_m7 85 rfl) rfl
theorem q1597 : (Jvm.Cond.methodLink "TemplateEngine$NumberData" (19 : Nat) ({ cls := "TemplateEngine$Output", name := "addNumber", desc := "(I)V" } : Jvm.MethodName)) ∈ lw_all := lw_g (lw_at lw_m7 86 rfl) rfl
theorem q1631 : (Jvm.Cond.selects "TemplateEngine$NumberData" ({ cls := "TemplateEngine$Data", name := "write", desc := "(LTemplateEngine$Output;)V" } : Jvm.MethodName) ({ cls := "TemplateEngine$NumberData", name := "write", desc := "(LTemplateEngine$Output;)V" } : Jvm.MethodName)) ∈ lw_all := lw_g (lw_at lw_m7 120 rfl) rfl
theorem q1664 : (Jvm.Cond.selects "TemplateEngine$NumberData" ({ cls := "TemplateEngine$Data", name := "size", desc := "()I" } : Jvm.MethodName) ({ cls := "TemplateEngine$NumberData", name := "size", desc := "()I" } : Jvm.MethodName)) ∈ lw_all := lw_g (lw_at lw_m7 153 rfl) rfl
theorem q1665 : (Jvm.Cond.instanceMethod ({ cls := "TemplateEngine$NumberData", name := "size", desc := "()I" } : Jvm.MethodName)) ∈ lw_all := lw_g (lw_at lw_m7 154 rfl) rfl
theorem q1666 : (Jvm.Cond.code ({ cls := "TemplateEngine$NumberData", name := "size", desc := "()I" } : Jvm.MethodName) prog_10_method_3_code (1 : Nat) (Option.some Jvm.ClassFile.FieldType.int)) ∈ lw_all := lw_g (lw_at lw_m7 155 rfl) rfl
theorem q1667 : (Jvm.Cond.methodLinkNest "TemplateEngine$NumberData" (13 : Nat) ({ cls := "TemplateEngine", name := "digits", desc := "(I)I" } : Jvm.MethodName) "TemplateEngine") ∈ lw_tbl := lw_at lw_m7 156 rfl
theorem q1688 : (Jvm.Cond.selects "TemplateEngine$NumberData" ({ cls := "TemplateEngine$Data", name := "isFalse", desc := "()Z" } : Jvm.MethodName) ({ cls := "TemplateEngine$NumberData", name := "isFalse", desc := "()Z" } : Jvm.MethodName)) ∈ lw_all := lw_g (lw_at lw_m7 177 rfl) rfl
theorem q1689 : (Jvm.Cond.instanceMethod ({ cls := "TemplateEngine$NumberData", name := "isFalse", desc := "()Z" } : Jvm.MethodName)) ∈ lw_all := lw_g (lw_at lw_m7 178 rfl) rfl
theorem q1690 : (Jvm.Cond.code ({ cls := "TemplateEngine$NumberData", name := "isFalse", desc := "()Z" } : Jvm.MethodName) prog_10_method_4_code (1 : Nat) (Option.some Jvm.ClassFile.FieldType.boolean)) ∈ lw_all := lw_g (lw_at lw_m7 179 rfl) rfl
theorem q2281 : (Jvm.Cond.castable "TemplateEngine$NumberData" "TemplateEngine$Data") ∈ lw_tbl := lw_at lw_m10 50 rfl
theorem q2287 : (Jvm.Cond.castable "TemplateEngine$NumberData" "java/lang/Object") ∈ lw_tbl := lw_at lw_m10 56 rfl
theorem in_X5 : ∀ w ∈ wsX50, w ∈ lw_all := lw_in wsX50 [624, 622] (by decide +kernel) (by decide +kernel)

/-! TemplateEngine$TextData -/
set_option maxRecDepth 100000
def RX6 : String := "TemplateEngine$TextData"
def TX6 : u_T := fun k => match k with
  | 0 => ("TemplateEngine$Data", "asked", "I", false)
  | 1 => ("TemplateEngine$TextData", "text", "Ljava/lang/String;", true)
  | _ => ("TemplateEngine$TextData", "inCapitals", "LTemplateEngine$TextData;", false)
def tyX6 : Nat → FieldType := fun k => match k with
  | 0 => .int
  | 1 => .object "java/lang/String"
  | _ => .object "TemplateEngine$TextData"
abbrev wsX60 : List Cond := u_ws RX6 TX6 3
theorem nmX6 : ∀ a, a < 3 → ∀ b, b < 3 → a ≠ b → (TX6 a).2.1 ≠ (TX6 b).2.1 := by decide +kernel
theorem tyX6_ok : ∀ k, k < 3 → parseFieldDescriptor (TX6 k).2.2.1 = some (tyX6 k) := by decide +kernel
abbrev cX6_init : ByteArray := prog_21_method_1_code
def yX6_init : MethodName := ⟨RX6, "<init>", "(Ljava/lang/String;)V"⟩
def dkwX6_init_0 : List UInt8 := [42, 183, 0, 1, 42, 1, 181, 0, 7, 42, 43, 181, 0, 13, 177]
abbrev dktX6_init_0 : List UInt8 := dkwX6_init_0 ++ []
theorem dksX6_init_0 : cX6_init.data.toList.drop 0 = dktX6_init_0 := by decide +kernel
theorem dX6_init_0 : decode cX6_init 0 = .ok (.aload_n 0, 1) := dk_42 (dk_at dksX6_init_0 0 rfl rfl)
theorem dX6_init_1 : decode cX6_init 1 = .ok (.invokespecial 1, 3) := dk_183 0 1 (dk_at dksX6_init_0 1 rfl rfl)
theorem dX6_init_4 : decode cX6_init 4 = .ok (.aload_n 0, 1) := dk_42 (dk_at dksX6_init_0 4 rfl rfl)
theorem dX6_init_5 : decode cX6_init 5 = .ok (.aconst_null, 1) := dk_1 (dk_at dksX6_init_0 5 rfl rfl)
theorem dX6_init_6 : decode cX6_init 6 = .ok (.putfield 7, 3) := dk_181 0 7 (dk_at dksX6_init_0 6 rfl rfl)
theorem dX6_init_9 : decode cX6_init 9 = .ok (.aload_n 0, 1) := dk_42 (dk_at dksX6_init_0 9 rfl rfl)
theorem dX6_init_10 : decode cX6_init 10 = .ok (.aload_n 1, 1) := dk_43 (dk_at dksX6_init_0 10 rfl rfl)
theorem dX6_init_11 : decode cX6_init 11 = .ok (.putfield 13, 3) := dk_181 0 13 (dk_at dksX6_init_0 11 rfl rfl)
theorem dX6_init_14 : decode cX6_init 14 = .ok (.return_, 1) := dk_177 (dk_at dksX6_init_0 14 rfl rfl)
abbrev cX6_kind : ByteArray := prog_21_method_3_code
def yX6_kind : MethodName := ⟨RX6, "kind", "()I"⟩
theorem dX6_kind_0 : decode cX6_kind 0 = .ok (.iconst 1, 1) := by decide +kernel
theorem dX6_kind_1 : decode cX6_kind 1 = .ok (.ireturn, 1) := by decide +kernel
abbrev cX6_inCapitals : ByteArray := prog_21_method_2_code
def yX6_inCapitals : MethodName := ⟨RX6, "inCapitals", "(LTemplateEngine$Output;)LTemplateEngine$TextData;"⟩
def dkwX6_inCapitals_0 : List UInt8 := [42, 180, 0, 7, 199, 0, 12, 42, 43, 42, 182, 0, 17, 181, 0, 7, 42, 180, 0, 7, 176]
abbrev dktX6_inCapitals_0 : List UInt8 := dkwX6_inCapitals_0 ++ []
theorem dksX6_inCapitals_0 : cX6_inCapitals.data.toList.drop 0 = dktX6_inCapitals_0 := by decide +kernel
theorem dX6_inCapitals_0 : decode cX6_inCapitals 0 = .ok (.aload_n 0, 1) := dk_42 (dk_at dksX6_inCapitals_0 0 rfl rfl)
theorem dX6_inCapitals_1 : decode cX6_inCapitals 1 = .ok (.getfield 7, 3) := dk_180 0 7 (dk_at dksX6_inCapitals_0 1 rfl rfl)
theorem dX6_inCapitals_4 : decode cX6_inCapitals 4 = .ok (.ifnonnull 12, 3) := dk_199 0 12 (dk_at dksX6_inCapitals_0 4 rfl rfl)
theorem dX6_inCapitals_7 : decode cX6_inCapitals 7 = .ok (.aload_n 0, 1) := dk_42 (dk_at dksX6_inCapitals_0 7 rfl rfl)
theorem dX6_inCapitals_8 : decode cX6_inCapitals 8 = .ok (.aload_n 1, 1) := dk_43 (dk_at dksX6_inCapitals_0 8 rfl rfl)
theorem dX6_inCapitals_9 : decode cX6_inCapitals 9 = .ok (.aload_n 0, 1) := dk_42 (dk_at dksX6_inCapitals_0 9 rfl rfl)
theorem dX6_inCapitals_10 : decode cX6_inCapitals 10 = .ok (.invokevirtual 17, 3) := dk_182 0 17 (dk_at dksX6_inCapitals_0 10 rfl rfl)
theorem dX6_inCapitals_13 : decode cX6_inCapitals 13 = .ok (.putfield 7, 3) := dk_181 0 7 (dk_at dksX6_inCapitals_0 13 rfl rfl)
theorem dX6_inCapitals_16 : decode cX6_inCapitals 16 = .ok (.aload_n 0, 1) := dk_42 (dk_at dksX6_inCapitals_0 16 rfl rfl)
theorem dX6_inCapitals_17 : decode cX6_inCapitals 17 = .ok (.getfield 7, 3) := dk_180 0 7 (dk_at dksX6_inCapitals_0 17 rfl rfl)
theorem dX6_inCapitals_20 : decode cX6_inCapitals 20 = .ok (.areturn, 1) := dk_176 (dk_at dksX6_inCapitals_0 20 rfl rfl)
abbrev cX6_write : ByteArray := prog_21_method_6_code
def yX6_write : MethodName := ⟨RX6, "write", "(LTemplateEngine$Output;)V"⟩
def dkwX6_write_0 : List UInt8 := [43, 42, 180, 0, 13, 182, 0, 32, 177]
abbrev dktX6_write_0 : List UInt8 := dkwX6_write_0 ++ []
theorem dksX6_write_0 : cX6_write.data.toList.drop 0 = dktX6_write_0 := by decide +kernel
theorem dX6_write_0 : decode cX6_write 0 = .ok (.aload_n 1, 1) := dk_43 (dk_at dksX6_write_0 0 rfl rfl)
theorem dX6_write_1 : decode cX6_write 1 = .ok (.aload_n 0, 1) := dk_42 (dk_at dksX6_write_0 1 rfl rfl)
theorem dX6_write_2 : decode cX6_write 2 = .ok (.getfield 13, 3) := dk_180 0 13 (dk_at dksX6_write_0 2 rfl rfl)
theorem dX6_write_5 : decode cX6_write 5 = .ok (.invokevirtual 32, 3) := dk_182 0 32 (dk_at dksX6_write_0 5 rfl rfl)
theorem dX6_write_8 : decode cX6_write 8 = .ok (.return_, 1) := dk_177 (dk_at dksX6_write_0 8 rfl rfl)
abbrev cX6_size : ByteArray := prog_21_method_4_code
def yX6_size : MethodName := ⟨RX6, "size", "()I"⟩
def dkwX6_size_0 : List UInt8 := [42, 180, 0, 13, 182, 0, 22, 172]
abbrev dktX6_size_0 : List UInt8 := dkwX6_size_0 ++ []
theorem dksX6_size_0 : cX6_size.data.toList.drop 0 = dktX6_size_0 := by decide +kernel
theorem dX6_size_0 : decode cX6_size 0 = .ok (.aload_n 0, 1) := dk_42 (dk_at dksX6_size_0 0 rfl rfl)
theorem dX6_size_1 : decode cX6_size 1 = .ok (.getfield 13, 3) := dk_180 0 13 (dk_at dksX6_size_0 1 rfl rfl)
theorem dX6_size_4 : decode cX6_size 4 = .ok (.invokevirtual 22, 3) := dk_182 0 22 (dk_at dksX6_size_0 4 rfl rfl)
theorem dX6_size_7 : decode cX6_size 7 = .ok (.ireturn, 1) := dk_172 (dk_at dksX6_size_0 7 rfl rfl)
abbrev cX6_isFalse : ByteArray := prog_21_method_5_code
def yX6_isFalse : MethodName := ⟨RX6, "isFalse", "()Z"⟩
def dkwX6_isFalse_0 : List UInt8 := [42, 180, 0, 13, 182, 0, 28, 172]
abbrev dktX6_isFalse_0 : List UInt8 := dkwX6_isFalse_0 ++ []
theorem dksX6_isFalse_0 : cX6_isFalse.data.toList.drop 0 = dktX6_isFalse_0 := by decide +kernel
theorem dX6_isFalse_0 : decode cX6_isFalse 0 = .ok (.aload_n 0, 1) := dk_42 (dk_at dksX6_isFalse_0 0 rfl rfl)
theorem dX6_isFalse_1 : decode cX6_isFalse 1 = .ok (.getfield 13, 3) := dk_180 0 13 (dk_at dksX6_isFalse_0 1 rfl rfl)
theorem dX6_isFalse_4 : decode cX6_isFalse 4 = .ok (.invokevirtual 28, 3) := dk_182 0 28 (dk_at dksX6_isFalse_0 4 rfl rfl)
theorem dX6_isFalse_7 : decode cX6_isFalse 7 = .ok (.ireturn, 1) := dk_172 (dk_at dksX6_isFalse_0 7 rfl rfl)
theorem q97 : (Jvm.Cond.initialized "TemplateEngine$TextData") ∈ lw_all := lw_g (lw_at lw_m1 26 rfl) rfl
theorem q673 : (Jvm.Cond.selects "TemplateEngine$TextData" ({ cls := "java/lang/Object", name := "getClass", desc := "()Ljava/lang/Class;" } : Jvm.MethodName) ({ cls := "java/lang/Object", name := "getClass", desc := "()Ljava/lang/Class;" } : Jvm.MethodName)) ∈ lw_all := lw_g (lw_at lw_m3 122 rfl) rfl
theorem q702 : (Jvm.Cond.instantiable "TemplateEngine$TextData" (3 : Nat)) ∈ lw_all := lw_g (lw_at lw_m3 151 rfl) rfl
theorem q705 : (Jvm.Cond.instanceMethod ({ cls := "TemplateEngine$TextData", name := "<init>", desc := "(Ljava/lang/String;)V" } : Jvm.MethodName)) ∈ lw_all := lw_g (lw_at lw_m3 154 rfl) rfl
theorem q706 : (Jvm.Cond.code ({ cls := "TemplateEngine$TextData", name := "<init>", desc := "(Ljava/lang/String;)V" } : Jvm.MethodName) prog_21_method_1_code (2 : Nat) (Option.none : Option Jvm.ClassFile.FieldType)) ∈ lw_all := lw_g (lw_at lw_m3 155 rfl) rfl
theorem q707 : (Jvm.Cond.methodLinkNest "TemplateEngine$TextData" (1 : Nat) ({ cls := "TemplateEngine$Data", name := "<init>", desc := "()V" } : Jvm.MethodName) "TemplateEngine") ∈ lw_tbl := lw_at lw_m3 156 rfl
theorem q708 : (Jvm.Cond.fieldLink "TemplateEngine$TextData" (13 : Nat) "TemplateEngine$TextData" "text" "Ljava/lang/String;") ∈ lw_all := lw_g (lw_at lw_m3 157 rfl) rfl
theorem q709 : (Jvm.Cond.fieldLink "TemplateEngine$TextData" (7 : Nat) "TemplateEngine$TextData" "inCapitals" "LTemplateEngine$TextData;") ∈ lw_all := lw_g (lw_at lw_m3 158 rfl) rfl
theorem q710 : (Jvm.Cond.laysFinal "TemplateEngine$TextData" "TemplateEngine$TextData" "text" "Ljava/lang/String;") ∈ lw_all := lw_g (lw_at lw_m3 159 rfl) rfl
theorem q711 : (Jvm.Cond.soleField "TemplateEngine$TextData" "text") ∈ lw_all := lw_g (lw_at lw_m3 160 rfl) rfl
theorem q712 : (Jvm.Cond.lays "TemplateEngine$TextData" "TemplateEngine$TextData" "inCapitals" "LTemplateEngine$TextData;") ∈ lw_all := lw_g (lw_at lw_m3 161 rfl) rfl
theorem q713 : (Jvm.Cond.soleField "TemplateEngine$TextData" "inCapitals") ∈ lw_all := lw_g (lw_at lw_m3 162 rfl) rfl
theorem q714 : (Jvm.Cond.lays "TemplateEngine$TextData" "TemplateEngine$Data" "asked" "I") ∈ lw_all := lw_g (lw_at lw_m3 163 rfl) rfl
theorem q715 : (Jvm.Cond.superclass "TemplateEngine$TextData" "TemplateEngine$Data") ∈ lw_all := lw_g (lw_at lw_m3 164 rfl) rfl
theorem q895 : (Jvm.Cond.selects "TemplateEngine$TextData" ({ cls := "TemplateEngine$Data", name := "kind", desc := "()I" } : Jvm.MethodName) ({ cls := "TemplateEngine$TextData", name := "kind", desc := "()I" } : Jvm.MethodName)) ∈ lw_all := lw_g (lw_at lw_m4 104 rfl) rfl
theorem q896 : (Jvm.Cond.instanceMethod ({ cls := "TemplateEngine$TextData", name := "kind", desc := "()I" } : Jvm.MethodName)) ∈ lw_all := lw_g (lw_at lw_m4 105 rfl) rfl
theorem q897 : (Jvm.Cond.code ({ cls := "TemplateEngine$TextData", name := "kind", desc := "()I" } : Jvm.MethodName) prog_21_method_3_code (1 : Nat) (Option.some Jvm.ClassFile.FieldType.int)) ∈ lw_all := lw_g (lw_at lw_m4 106 rfl) rfl
theorem q905 : (Jvm.Cond.selects "TemplateEngine$TextData" ({ cls := "TemplateEngine$Data", name := "contains", desc := "(LTemplateEngine$Data;I)Z" } : Jvm.MethodName) ({ cls := "TemplateEngine$Data", name := "contains", desc := "(LTemplateEngine$Data;I)Z" } : Jvm.MethodName)) ∈ lw_all := lw_g (lw_at lw_m4 114 rfl) rfl
theorem q916 : (Jvm.Cond.selects "TemplateEngine$TextData" ({ cls := "TemplateEngine$Data", name := "turns", desc := "()I" } : Jvm.MethodName) ({ cls := "TemplateEngine$Data", name := "turns", desc := "()I" } : Jvm.MethodName)) ∈ lw_all := lw_g (lw_at lw_m4 125 rfl) rfl
theorem q927 : (Jvm.Cond.selects "TemplateEngine$TextData" ({ cls := "TemplateEngine$Data", name := "element", desc := "(I)LTemplateEngine$Data;" } : Jvm.MethodName) ({ cls := "TemplateEngine$Data", name := "element", desc := "(I)LTemplateEngine$Data;" } : Jvm.MethodName)) ∈ lw_all := lw_g (lw_at lw_m4 136 rfl) rfl
theorem q1540 : (Jvm.Cond.selects "TemplateEngine$TextData" ({ cls := "TemplateEngine$Data", name := "member", desc := "(Ljava/lang/String;)LTemplateEngine$Data;" } : Jvm.MethodName) ({ cls := "TemplateEngine$Data", name := "member", desc := "(Ljava/lang/String;)LTemplateEngine$Data;" } : Jvm.MethodName)) ∈ lw_all := lw_g (lw_at lw_m7 29 rfl) rfl
theorem q1559 : (Jvm.Cond.instanceMethod ({ cls := "TemplateEngine$TextData", name := "inCapitals", desc := "(LTemplateEngine$Output;)LTemplateEngine$TextData;" } : Jvm.MethodName)) ∈ lw_all := lw_g (lw_at lw_m7 48 rfl) rfl
theorem q1560 : (Jvm.Cond.selects "TemplateEngine$TextData" ({ cls := "TemplateEngine$TextData", name := "inCapitals", desc := "(LTemplateEngine$Output;)LTemplateEngine$TextData;" } : Jvm.MethodName) ({ cls := "TemplateEngine$TextData", name := "inCapitals", desc := "(LTemplateEngine$Output;)LTemplateEngine$TextData;" } : Jvm.MethodName)) ∈ lw_all := lw_g (lw_at lw_m7 49 rfl) rfl
theorem q1561 : (Jvm.Cond.code ({ cls := "TemplateEngine$TextData", name := "inCapitals", desc := "(LTemplateEngine$Output;)LTemplateEngine$TextData;" } : Jvm.MethodName) prog_21_method_2_code (2 : Nat) (Option.some (Jvm.ClassFile.FieldType.object "TemplateEngine$TextData"))) ∈ lw_all := lw_g (lw_at lw_m7 50 rfl) rfl
theorem q1562 : (Jvm.Cond.methodLink "TemplateEngine$TextData" (17 : Nat) ({ cls := "TemplateEngine$Output", name := "inCapitals", desc := "(LTemplateEngine$Data;)LTemplateEngine$TextData;" } : Jvm.MethodName)) ∈ lw_all := lw_g (lw_at lw_m7 51 rfl) rfl
theorem q1605 : (Jvm.Cond.instanceMethod ({ cls := "TemplateEngine$TextData", name := "write", desc := "(LTemplateEngine$Output;)V" } : Jvm.MethodName)) ∈ lw_all := lw_g (lw_at lw_m7 94 rfl) rfl
theorem q1606 : (Jvm.Cond.code ({ cls := "TemplateEngine$TextData", name := "write", desc := "(LTemplateEngine$Output;)V" } : Jvm.MethodName) prog_21_method_6_code (2 : Nat) (Option.none : Option Jvm.ClassFile.FieldType)) ∈ lw_all := lw_g (lw_at lw_m7 95 rfl) rfl
theorem q1607 : (Jvm.Cond.methodLink "TemplateEngine$TextData" (32 : Nat) ({ cls := "TemplateEngine$Output", name := "add", desc := "(Ljava/lang/String;)V" } : Jvm.MethodName)) ∈ lw_all := lw_g (lw_at lw_m7 96 rfl) rfl
theorem q1632 : (Jvm.Cond.selects "TemplateEngine$TextData" ({ cls := "TemplateEngine$Data", name := "write", desc := "(LTemplateEngine$Output;)V" } : Jvm.MethodName) ({ cls := "TemplateEngine$TextData", name := "write", desc := "(LTemplateEngine$Output;)V" } : Jvm.MethodName)) ∈ lw_all := lw_g (lw_at lw_m7 121 rfl) rfl
theorem q1668 : (Jvm.Cond.selects "TemplateEngine$TextData" ({ cls := "TemplateEngine$Data", name := "size", desc := "()I" } : Jvm.MethodName) ({ cls := "TemplateEngine$TextData", name := "size", desc := "()I" } : Jvm.MethodName)) ∈ lw_all := lw_g (lw_at lw_m7 157 rfl) rfl
theorem q1669 : (Jvm.Cond.instanceMethod ({ cls := "TemplateEngine$TextData", name := "size", desc := "()I" } : Jvm.MethodName)) ∈ lw_all := lw_g (lw_at lw_m7 158 rfl) rfl
theorem q1670 : (Jvm.Cond.code ({ cls := "TemplateEngine$TextData", name := "size", desc := "()I" } : Jvm.MethodName) prog_21_method_4_code (1 : Nat) (Option.some Jvm.ClassFile.FieldType.int)) ∈ lw_all := lw_g (lw_at lw_m7 159 rfl) rfl
theorem q1671 : (Jvm.Cond.methodLink "TemplateEngine$TextData" (22 : Nat) ({ cls := "java/lang/String", name := "length", desc := "()I" } : Jvm.MethodName)) ∈ lw_all := lw_g (lw_at lw_m7 160 rfl) rfl
theorem q1691 : (Jvm.Cond.selects "TemplateEngine$TextData" ({ cls := "TemplateEngine$Data", name := "isFalse", desc := "()Z" } : Jvm.MethodName) ({ cls := "TemplateEngine$TextData", name := "isFalse", desc := "()Z" } : Jvm.MethodName)) ∈ lw_all := lw_g (lw_at lw_m7 180 rfl) rfl
theorem q1692 : (Jvm.Cond.instanceMethod ({ cls := "TemplateEngine$TextData", name := "isFalse", desc := "()Z" } : Jvm.MethodName)) ∈ lw_all := lw_g (lw_at lw_m7 181 rfl) rfl
theorem q1693 : (Jvm.Cond.code ({ cls := "TemplateEngine$TextData", name := "isFalse", desc := "()Z" } : Jvm.MethodName) prog_21_method_5_code (1 : Nat) (Option.some Jvm.ClassFile.FieldType.boolean)) ∈ lw_all := lw_g (lw_at lw_m7 182 rfl) rfl
theorem q1694 : (Jvm.Cond.methodLink "TemplateEngine$TextData" (28 : Nat) ({ cls := "java/lang/String", name := "isEmpty", desc := "()Z" } : Jvm.MethodName)) ∈ lw_all := lw_g (lw_at lw_m7 183 rfl) rfl
theorem q2282 : (Jvm.Cond.castable "TemplateEngine$TextData" "TemplateEngine$Data") ∈ lw_tbl := lw_at lw_m10 51 rfl
theorem q2295 : (Jvm.Cond.castable "TemplateEngine$TextData" "java/lang/Object") ∈ lw_tbl := lw_at lw_m10 64 rfl
theorem in_X6 : ∀ w ∈ wsX60, w ∈ lw_all := lw_in wsX60 [714, 710, 712] (by decide +kernel) (by decide +kernel)

/-! TemplateEngine$ListData -/
set_option maxRecDepth 100000
def RX7 : String := "TemplateEngine$ListData"
def TX7 : u_T := fun k => match k with
  | 0 => ("TemplateEngine$Data", "asked", "I", false)
  | 1 => ("TemplateEngine$ListData", "elements", "[LTemplateEngine$Data;", true)
  | _ => ("TemplateEngine$ListData", "count", "I", false)
def tyX7 : Nat → FieldType := fun k => match k with
  | 0 => .int
  | 1 => .array (.object "TemplateEngine$Data")
  | _ => .int
abbrev wsX70 : List Cond := u_ws RX7 TX7 3
theorem nmX7 : ∀ a, a < 3 → ∀ b, b < 3 → a ≠ b → (TX7 a).2.1 ≠ (TX7 b).2.1 := by decide +kernel
theorem tyX7_ok : ∀ k, k < 3 → parseFieldDescriptor (TX7 k).2.2.1 = some (tyX7 k) := by decide +kernel
abbrev cX7_init : ByteArray := prog_8_method_1_code
def yX7_init : MethodName := ⟨RX7, "<init>", "()V"⟩
def dkwX7_init_0 : List UInt8 := [42, 183, 0, 1, 42, 16, 10, 189, 0, 2, 181, 0, 7, 177]
abbrev dktX7_init_0 : List UInt8 := dkwX7_init_0 ++ []
theorem dksX7_init_0 : cX7_init.data.toList.drop 0 = dktX7_init_0 := by decide +kernel
theorem dX7_init_0 : decode cX7_init 0 = .ok (.aload_n 0, 1) := dk_42 (dk_at dksX7_init_0 0 rfl rfl)
theorem dX7_init_1 : decode cX7_init 1 = .ok (.invokespecial 1, 3) := dk_183 0 1 (dk_at dksX7_init_0 1 rfl rfl)
theorem dX7_init_4 : decode cX7_init 4 = .ok (.aload_n 0, 1) := dk_42 (dk_at dksX7_init_0 4 rfl rfl)
theorem dX7_init_5 : decode cX7_init 5 = .ok (.bipush 10, 2) := dk_16 10 (dk_at dksX7_init_0 5 rfl rfl)
theorem dX7_init_7 : decode cX7_init 7 = .ok (.anewarray 2, 3) := dk_189 0 2 (dk_at dksX7_init_0 7 rfl rfl)
theorem dX7_init_10 : decode cX7_init 10 = .ok (.putfield 7, 3) := dk_181 0 7 (dk_at dksX7_init_0 10 rfl rfl)
theorem dX7_init_13 : decode cX7_init 13 = .ok (.return_, 1) := dk_177 (dk_at dksX7_init_0 13 rfl rfl)
abbrev cX7_kind : ByteArray := prog_8_method_2_code
def yX7_kind : MethodName := ⟨RX7, "kind", "()I"⟩
theorem dX7_kind_0 : decode cX7_kind 0 = .ok (.iconst 2, 1) := by decide +kernel
theorem dX7_kind_1 : decode cX7_kind 1 = .ok (.ireturn, 1) := by decide +kernel
abbrev cX7_turns : ByteArray := prog_8_method_8_code
def yX7_turns : MethodName := ⟨RX7, "turns", "()I"⟩
theorem dX7_turns_0 : decode cX7_turns 0 = .ok (.aload_n 0, 1) := by decide +kernel
theorem dX7_turns_1 : decode cX7_turns 1 = .ok (.getfield 13, 3) := by decide +kernel
theorem dX7_turns_4 : decode cX7_turns 4 = .ok (.ireturn, 1) := by decide +kernel
abbrev cX7_element : ByteArray := prog_8_method_7_code
def yX7_element : MethodName := ⟨RX7, "element", "(I)LTemplateEngine$Data;"⟩
def dkwX7_element_0 : List UInt8 := [27, 155, 0, 20, 27, 42, 180, 0, 13, 162, 0, 12, 42, 180, 0, 7, 27, 50, 167, 0, 4, 1, 176]
abbrev dktX7_element_0 : List UInt8 := dkwX7_element_0 ++ []
theorem dksX7_element_0 : cX7_element.data.toList.drop 0 = dktX7_element_0 := by decide +kernel
theorem dX7_element_0 : decode cX7_element 0 = .ok (.iload_n 1, 1) := dk_27 (dk_at dksX7_element_0 0 rfl rfl)
theorem dX7_element_1 : decode cX7_element 1 = .ok (.ifCond .lt 20, 3) := dk_155 0 20 (dk_at dksX7_element_0 1 rfl rfl)
theorem dX7_element_4 : decode cX7_element 4 = .ok (.iload_n 1, 1) := dk_27 (dk_at dksX7_element_0 4 rfl rfl)
theorem dX7_element_5 : decode cX7_element 5 = .ok (.aload_n 0, 1) := dk_42 (dk_at dksX7_element_0 5 rfl rfl)
theorem dX7_element_6 : decode cX7_element 6 = .ok (.getfield 13, 3) := dk_180 0 13 (dk_at dksX7_element_0 6 rfl rfl)
theorem dX7_element_9 : decode cX7_element 9 = .ok (.if_icmp .ge 12, 3) := dk_162 0 12 (dk_at dksX7_element_0 9 rfl rfl)
theorem dX7_element_12 : decode cX7_element 12 = .ok (.aload_n 0, 1) := dk_42 (dk_at dksX7_element_0 12 rfl rfl)
theorem dX7_element_13 : decode cX7_element 13 = .ok (.getfield 7, 3) := dk_180 0 7 (dk_at dksX7_element_0 13 rfl rfl)
theorem dX7_element_16 : decode cX7_element 16 = .ok (.iload_n 1, 1) := dk_27 (dk_at dksX7_element_0 16 rfl rfl)
theorem dX7_element_17 : decode cX7_element 17 = .ok (.aaload, 1) := dk_50 (dk_at dksX7_element_0 17 rfl rfl)
theorem dX7_element_18 : decode cX7_element 18 = .ok (.goto 4, 3) := dk_167 0 4 (dk_at dksX7_element_0 18 rfl rfl)
theorem dX7_element_21 : decode cX7_element 21 = .ok (.aconst_null, 1) := dk_1 (dk_at dksX7_element_0 21 rfl rfl)
theorem dX7_element_22 : decode cX7_element 22 = .ok (.areturn, 1) := dk_176 (dk_at dksX7_element_0 22 rfl rfl)
abbrev cX7_member : ByteArray := prog_8_method_6_code
def yX7_member : MethodName := ⟨RX7, "member", "(Ljava/lang/String;)LTemplateEngine$Data;"⟩
def dkwX7_member_1 : List UInt8 := [182, 0, 35, 167, 0, 4, 1, 176]
abbrev dktX7_member_1 : List UInt8 := dkwX7_member_1 ++ []
def dkwX7_member_0 : List UInt8 := [43, 3, 182, 0, 29, 61, 28, 16, 48, 161, 0, 20, 28, 16, 57, 163, 0, 14, 42, 28, 16, 48, 100]
abbrev dktX7_member_0 : List UInt8 := dkwX7_member_0 ++ dktX7_member_1
theorem dksX7_member_0 : cX7_member.data.toList.drop 0 = dktX7_member_0 := by decide +kernel
theorem dksX7_member_1 : cX7_member.data.toList.drop 23 = dktX7_member_1 := dk_seg dksX7_member_0 23 rfl rfl
theorem dX7_member_0 : decode cX7_member 0 = .ok (.aload_n 1, 1) := dk_43 (dk_at dksX7_member_0 0 rfl rfl)
theorem dX7_member_1 : decode cX7_member 1 = .ok (.iconst 0, 1) := dk_3 (dk_at dksX7_member_0 1 rfl rfl)
theorem dX7_member_2 : decode cX7_member 2 = .ok (.invokevirtual 29, 3) := dk_182 0 29 (dk_at dksX7_member_0 2 rfl rfl)
theorem dX7_member_5 : decode cX7_member 5 = .ok (.istore_n 2, 1) := dk_61 (dk_at dksX7_member_0 5 rfl rfl)
theorem dX7_member_6 : decode cX7_member 6 = .ok (.iload_n 2, 1) := dk_28 (dk_at dksX7_member_0 6 rfl rfl)
theorem dX7_member_7 : decode cX7_member 7 = .ok (.bipush 48, 2) := dk_16 48 (dk_at dksX7_member_0 7 rfl rfl)
theorem dX7_member_9 : decode cX7_member 9 = .ok (.if_icmp .lt 20, 3) := dk_161 0 20 (dk_at dksX7_member_0 9 rfl rfl)
theorem dX7_member_12 : decode cX7_member 12 = .ok (.iload_n 2, 1) := dk_28 (dk_at dksX7_member_0 12 rfl rfl)
theorem dX7_member_13 : decode cX7_member 13 = .ok (.bipush 57, 2) := dk_16 57 (dk_at dksX7_member_0 13 rfl rfl)
theorem dX7_member_15 : decode cX7_member 15 = .ok (.if_icmp .gt 14, 3) := dk_163 0 14 (dk_at dksX7_member_0 15 rfl rfl)
theorem dX7_member_18 : decode cX7_member 18 = .ok (.aload_n 0, 1) := dk_42 (dk_at dksX7_member_0 18 rfl rfl)
theorem dX7_member_19 : decode cX7_member 19 = .ok (.iload_n 2, 1) := dk_28 (dk_at dksX7_member_0 19 rfl rfl)
theorem dX7_member_20 : decode cX7_member 20 = .ok (.bipush 48, 2) := dk_16 48 (dk_at dksX7_member_0 20 rfl rfl)
theorem dX7_member_22 : decode cX7_member 22 = .ok (.isub, 1) := dk_100 (dk_at dksX7_member_0 22 rfl rfl)
theorem dX7_member_23 : decode cX7_member 23 = .ok (.invokevirtual 35, 3) := dk_182 0 35 (dk_at dksX7_member_1 0 rfl rfl)
theorem dX7_member_26 : decode cX7_member 26 = .ok (.goto 4, 3) := dk_167 0 4 (dk_at dksX7_member_1 3 rfl rfl)
theorem dX7_member_29 : decode cX7_member 29 = .ok (.aconst_null, 1) := dk_1 (dk_at dksX7_member_1 6 rfl rfl)
theorem dX7_member_30 : decode cX7_member 30 = .ok (.areturn, 1) := dk_176 (dk_at dksX7_member_1 7 rfl rfl)
abbrev cX7_write : ByteArray := prog_8_method_5_code
def yX7_write : MethodName := ⟨RX7, "write", "(LTemplateEngine$Output;)V"⟩
def dkwX7_write_1 : List UInt8 := [28, 50, 43, 182, 0, 25, 132, 2, 1, 167, 255, 225, 177]
abbrev dktX7_write_1 : List UInt8 := dkwX7_write_1 ++ []
def dkwX7_write_0 : List UInt8 := [3, 61, 28, 42, 180, 0, 13, 162, 0, 29, 28, 158, 0, 9, 43, 18, 17, 182, 0, 19, 42, 180, 0, 7]
abbrev dktX7_write_0 : List UInt8 := dkwX7_write_0 ++ dktX7_write_1
theorem dksX7_write_0 : cX7_write.data.toList.drop 0 = dktX7_write_0 := by decide +kernel
theorem dksX7_write_1 : cX7_write.data.toList.drop 24 = dktX7_write_1 := dk_seg dksX7_write_0 24 rfl rfl
theorem dX7_write_0 : decode cX7_write 0 = .ok (.iconst 0, 1) := dk_3 (dk_at dksX7_write_0 0 rfl rfl)
theorem dX7_write_1 : decode cX7_write 1 = .ok (.istore_n 2, 1) := dk_61 (dk_at dksX7_write_0 1 rfl rfl)
theorem dX7_write_2 : decode cX7_write 2 = .ok (.iload_n 2, 1) := dk_28 (dk_at dksX7_write_0 2 rfl rfl)
theorem dX7_write_3 : decode cX7_write 3 = .ok (.aload_n 0, 1) := dk_42 (dk_at dksX7_write_0 3 rfl rfl)
theorem dX7_write_4 : decode cX7_write 4 = .ok (.getfield 13, 3) := dk_180 0 13 (dk_at dksX7_write_0 4 rfl rfl)
theorem dX7_write_7 : decode cX7_write 7 = .ok (.if_icmp .ge 29, 3) := dk_162 0 29 (dk_at dksX7_write_0 7 rfl rfl)
theorem dX7_write_10 : decode cX7_write 10 = .ok (.iload_n 2, 1) := dk_28 (dk_at dksX7_write_0 10 rfl rfl)
theorem dX7_write_11 : decode cX7_write 11 = .ok (.ifCond .le 9, 3) := dk_158 0 9 (dk_at dksX7_write_0 11 rfl rfl)
theorem dX7_write_14 : decode cX7_write 14 = .ok (.aload_n 1, 1) := dk_43 (dk_at dksX7_write_0 14 rfl rfl)
theorem dX7_write_15 : decode cX7_write 15 = .ok (.ldc 17, 2) := dk_18 17 (dk_at dksX7_write_0 15 rfl rfl)
theorem dX7_write_17 : decode cX7_write 17 = .ok (.invokevirtual 19, 3) := dk_182 0 19 (dk_at dksX7_write_0 17 rfl rfl)
theorem dX7_write_20 : decode cX7_write 20 = .ok (.aload_n 0, 1) := dk_42 (dk_at dksX7_write_0 20 rfl rfl)
theorem dX7_write_21 : decode cX7_write 21 = .ok (.getfield 7, 3) := dk_180 0 7 (dk_at dksX7_write_0 21 rfl rfl)
theorem dX7_write_24 : decode cX7_write 24 = .ok (.iload_n 2, 1) := dk_28 (dk_at dksX7_write_1 0 rfl rfl)
theorem dX7_write_25 : decode cX7_write 25 = .ok (.aaload, 1) := dk_50 (dk_at dksX7_write_1 1 rfl rfl)
theorem dX7_write_26 : decode cX7_write 26 = .ok (.aload_n 1, 1) := dk_43 (dk_at dksX7_write_1 2 rfl rfl)
theorem dX7_write_27 : decode cX7_write 27 = .ok (.invokevirtual 25, 3) := dk_182 0 25 (dk_at dksX7_write_1 3 rfl rfl)
theorem dX7_write_30 : decode cX7_write 30 = .ok (.iinc 2 1, 3) := dk_132 2 1 (dk_at dksX7_write_1 6 rfl rfl)
theorem dX7_write_33 : decode cX7_write 33 = .ok (.goto (-31), 3) := dk_167 255 225 (dk_at dksX7_write_1 9 rfl rfl)
theorem dX7_write_36 : decode cX7_write 36 = .ok (.return_, 1) := dk_177 (dk_at dksX7_write_1 12 rfl rfl)
abbrev cX7_size : ByteArray := prog_8_method_3_code
def yX7_size : MethodName := ⟨RX7, "size", "()I"⟩
theorem dX7_size_0 : decode cX7_size 0 = .ok (.aload_n 0, 1) := by decide +kernel
theorem dX7_size_1 : decode cX7_size 1 = .ok (.getfield 13, 3) := by decide +kernel
theorem dX7_size_4 : decode cX7_size 4 = .ok (.ireturn, 1) := by decide +kernel
abbrev cX7_isFalse : ByteArray := prog_8_method_4_code
def yX7_isFalse : MethodName := ⟨RX7, "isFalse", "()Z"⟩
def dkwX7_isFalse_0 : List UInt8 := [42, 180, 0, 13, 154, 0, 7, 4, 167, 0, 4, 3, 172]
abbrev dktX7_isFalse_0 : List UInt8 := dkwX7_isFalse_0 ++ []
theorem dksX7_isFalse_0 : cX7_isFalse.data.toList.drop 0 = dktX7_isFalse_0 := by decide +kernel
theorem dX7_isFalse_0 : decode cX7_isFalse 0 = .ok (.aload_n 0, 1) := dk_42 (dk_at dksX7_isFalse_0 0 rfl rfl)
theorem dX7_isFalse_1 : decode cX7_isFalse 1 = .ok (.getfield 13, 3) := dk_180 0 13 (dk_at dksX7_isFalse_0 1 rfl rfl)
theorem dX7_isFalse_4 : decode cX7_isFalse 4 = .ok (.ifCond .ne 7, 3) := dk_154 0 7 (dk_at dksX7_isFalse_0 4 rfl rfl)
theorem dX7_isFalse_7 : decode cX7_isFalse 7 = .ok (.iconst 1, 1) := dk_4 (dk_at dksX7_isFalse_0 7 rfl rfl)
theorem dX7_isFalse_8 : decode cX7_isFalse 8 = .ok (.goto 4, 3) := dk_167 0 4 (dk_at dksX7_isFalse_0 8 rfl rfl)
theorem dX7_isFalse_11 : decode cX7_isFalse 11 = .ok (.iconst 0, 1) := dk_3 (dk_at dksX7_isFalse_0 11 rfl rfl)
theorem dX7_isFalse_12 : decode cX7_isFalse 12 = .ok (.ireturn, 1) := dk_172 (dk_at dksX7_isFalse_0 12 rfl rfl)
theorem q101 : (Jvm.Cond.initialized "TemplateEngine$ListData") ∈ lw_all := lw_g (lw_at lw_m1 30 rfl) rfl
theorem q662 : (Jvm.Cond.selects "TemplateEngine$ListData" ({ cls := "java/lang/Object", name := "getClass", desc := "()Ljava/lang/Class;" } : Jvm.MethodName) ({ cls := "java/lang/Object", name := "getClass", desc := "()Ljava/lang/Class;" } : Jvm.MethodName)) ∈ lw_all := lw_g (lw_at lw_m3 111 rfl) rfl
theorem q792 : (Jvm.Cond.instantiable "TemplateEngine$ListData" (3 : Nat)) ∈ lw_all := lw_g (lw_at lw_m4 1 rfl) rfl
theorem q794 : (Jvm.Cond.instanceMethod ({ cls := "TemplateEngine$ListData", name := "<init>", desc := "()V" } : Jvm.MethodName)) ∈ lw_all := lw_g (lw_at lw_m4 3 rfl) rfl
theorem q795 : (Jvm.Cond.code ({ cls := "TemplateEngine$ListData", name := "<init>", desc := "()V" } : Jvm.MethodName) prog_8_method_1_code (1 : Nat) (Option.none : Option Jvm.ClassFile.FieldType)) ∈ lw_all := lw_g (lw_at lw_m4 4 rfl) rfl
theorem q796 : (Jvm.Cond.methodLinkNest "TemplateEngine$ListData" (1 : Nat) ({ cls := "TemplateEngine$Data", name := "<init>", desc := "()V" } : Jvm.MethodName) "TemplateEngine") ∈ lw_tbl := lw_at lw_m4 5 rfl
theorem q797 : (Jvm.Cond.classLink "TemplateEngine$ListData" (2 : Nat) "TemplateEngine$Data") ∈ lw_all := lw_g (lw_at lw_m4 6 rfl) rfl
theorem q799 : (Jvm.Cond.fieldLink "TemplateEngine$ListData" (7 : Nat) "TemplateEngine$ListData" "elements" "[LTemplateEngine$Data;") ∈ lw_all := lw_g (lw_at lw_m4 8 rfl) rfl
theorem q803 : (Jvm.Cond.fieldLink "TemplateEngine$ListData" (13 : Nat) "TemplateEngine$ListData" "count" "I") ∈ lw_all := lw_g (lw_at lw_m4 12 rfl) rfl
theorem q808 : (Jvm.Cond.laysFinal "TemplateEngine$ListData" "TemplateEngine$ListData" "elements" "[LTemplateEngine$Data;") ∈ lw_all := lw_g (lw_at lw_m4 17 rfl) rfl
theorem q809 : (Jvm.Cond.soleField "TemplateEngine$ListData" "elements") ∈ lw_all := lw_g (lw_at lw_m4 18 rfl) rfl
theorem q810 : (Jvm.Cond.lays "TemplateEngine$ListData" "TemplateEngine$ListData" "count" "I") ∈ lw_all := lw_g (lw_at lw_m4 19 rfl) rfl
theorem q811 : (Jvm.Cond.soleField "TemplateEngine$ListData" "count") ∈ lw_all := lw_g (lw_at lw_m4 20 rfl) rfl
theorem q812 : (Jvm.Cond.lays "TemplateEngine$ListData" "TemplateEngine$Data" "asked" "I") ∈ lw_all := lw_g (lw_at lw_m4 21 rfl) rfl
theorem q813 : (Jvm.Cond.superclass "TemplateEngine$ListData" "TemplateEngine$Data") ∈ lw_all := lw_g (lw_at lw_m4 22 rfl) rfl
theorem q886 : (Jvm.Cond.selects "TemplateEngine$ListData" ({ cls := "TemplateEngine$Data", name := "kind", desc := "()I" } : Jvm.MethodName) ({ cls := "TemplateEngine$ListData", name := "kind", desc := "()I" } : Jvm.MethodName)) ∈ lw_all := lw_g (lw_at lw_m4 95 rfl) rfl
theorem q887 : (Jvm.Cond.instanceMethod ({ cls := "TemplateEngine$ListData", name := "kind", desc := "()I" } : Jvm.MethodName)) ∈ lw_all := lw_g (lw_at lw_m4 96 rfl) rfl
theorem q888 : (Jvm.Cond.code ({ cls := "TemplateEngine$ListData", name := "kind", desc := "()I" } : Jvm.MethodName) prog_8_method_2_code (1 : Nat) (Option.some Jvm.ClassFile.FieldType.int)) ∈ lw_all := lw_g (lw_at lw_m4 97 rfl) rfl
theorem q902 : (Jvm.Cond.selects "TemplateEngine$ListData" ({ cls := "TemplateEngine$Data", name := "contains", desc := "(LTemplateEngine$Data;I)Z" } : Jvm.MethodName) ({ cls := "TemplateEngine$Data", name := "contains", desc := "(LTemplateEngine$Data;I)Z" } : Jvm.MethodName)) ∈ lw_all := lw_g (lw_at lw_m4 111 rfl) rfl
theorem q911 : (Jvm.Cond.selects "TemplateEngine$ListData" ({ cls := "TemplateEngine$Data", name := "turns", desc := "()I" } : Jvm.MethodName) ({ cls := "TemplateEngine$ListData", name := "turns", desc := "()I" } : Jvm.MethodName)) ∈ lw_all := lw_g (lw_at lw_m4 120 rfl) rfl
theorem q912 : (Jvm.Cond.instanceMethod ({ cls := "TemplateEngine$ListData", name := "turns", desc := "()I" } : Jvm.MethodName)) ∈ lw_all := lw_g (lw_at lw_m4 121 rfl) rfl
theorem q913 : (Jvm.Cond.code ({ cls := "TemplateEngine$ListData", name := "turns", desc := "()I" } : Jvm.MethodName) prog_8_method_8_code (1 : Nat) (Option.some Jvm.ClassFile.FieldType.int)) ∈ lw_all := lw_g (lw_at lw_m4 122 rfl) rfl
theorem q922 : (Jvm.Cond.selects "TemplateEngine$ListData" ({ cls := "TemplateEngine$Data", name := "element", desc := "(I)LTemplateEngine$Data;" } : Jvm.MethodName) ({ cls := "TemplateEngine$ListData", name := "element", desc := "(I)LTemplateEngine$Data;" } : Jvm.MethodName)) ∈ lw_all := lw_g (lw_at lw_m4 131 rfl) rfl
theorem q923 : (Jvm.Cond.instanceMethod ({ cls := "TemplateEngine$ListData", name := "element", desc := "(I)LTemplateEngine$Data;" } : Jvm.MethodName)) ∈ lw_all := lw_g (lw_at lw_m4 132 rfl) rfl
theorem q924 : (Jvm.Cond.code ({ cls := "TemplateEngine$ListData", name := "element", desc := "(I)LTemplateEngine$Data;" } : Jvm.MethodName) prog_8_method_7_code (2 : Nat) (Option.some (Jvm.ClassFile.FieldType.object "TemplateEngine$Data"))) ∈ lw_all := lw_g (lw_at lw_m4 133 rfl) rfl
theorem q1531 : (Jvm.Cond.selects "TemplateEngine$ListData" ({ cls := "TemplateEngine$Data", name := "member", desc := "(Ljava/lang/String;)LTemplateEngine$Data;" } : Jvm.MethodName) ({ cls := "TemplateEngine$ListData", name := "member", desc := "(Ljava/lang/String;)LTemplateEngine$Data;" } : Jvm.MethodName)) ∈ lw_all := lw_g (lw_at lw_m7 20 rfl) rfl
theorem q1532 : (Jvm.Cond.instanceMethod ({ cls := "TemplateEngine$ListData", name := "member", desc := "(Ljava/lang/String;)LTemplateEngine$Data;" } : Jvm.MethodName)) ∈ lw_all := lw_g (lw_at lw_m7 21 rfl) rfl
theorem q1533 : (Jvm.Cond.code ({ cls := "TemplateEngine$ListData", name := "member", desc := "(Ljava/lang/String;)LTemplateEngine$Data;" } : Jvm.MethodName) prog_8_method_6_code (3 : Nat) (Option.some (Jvm.ClassFile.FieldType.object "TemplateEngine$Data"))) ∈ lw_all := lw_g (lw_at lw_m7 22 rfl) rfl
theorem q1534 : (Jvm.Cond.methodLink "TemplateEngine$ListData" (29 : Nat) ({ cls := "java/lang/String", name := "charAt", desc := "(I)C" } : Jvm.MethodName)) ∈ lw_all := lw_g (lw_at lw_m7 23 rfl) rfl
theorem q1535 : (Jvm.Cond.methodLink "TemplateEngine$ListData" (35 : Nat) ({ cls := "TemplateEngine$ListData", name := "element", desc := "(I)LTemplateEngine$Data;" } : Jvm.MethodName)) ∈ lw_all := lw_g (lw_at lw_m7 24 rfl) rfl
theorem q1579 : (Jvm.Cond.instanceMethod ({ cls := "TemplateEngine$ListData", name := "write", desc := "(LTemplateEngine$Output;)V" } : Jvm.MethodName)) ∈ lw_all := lw_g (lw_at lw_m7 68 rfl) rfl
theorem q1580 : (Jvm.Cond.code ({ cls := "TemplateEngine$ListData", name := "write", desc := "(LTemplateEngine$Output;)V" } : Jvm.MethodName) prog_8_method_5_code (3 : Nat) (Option.none : Option Jvm.ClassFile.FieldType)) ∈ lw_all := lw_g (lw_at lw_m7 69 rfl) rfl
theorem q1581 : (Jvm.Cond.stringRef "TemplateEngine$ListData" (17 : Nat) ",") ∈ lw_tbl := lw_at lw_m7 70 rfl
theorem q1582 : (Jvm.Cond.methodLink "TemplateEngine$ListData" (19 : Nat) ({ cls := "TemplateEngine$Output", name := "add", desc := "(Ljava/lang/String;)V" } : Jvm.MethodName)) ∈ lw_all := lw_g (lw_at lw_m7 71 rfl) rfl
theorem q1590 : (Jvm.Cond.methodLink "TemplateEngine$ListData" (25 : Nat) ({ cls := "TemplateEngine$Data", name := "write", desc := "(LTemplateEngine$Output;)V" } : Jvm.MethodName)) ∈ lw_all := lw_g (lw_at lw_m7 79 rfl) rfl
theorem q1629 : (Jvm.Cond.selects "TemplateEngine$ListData" ({ cls := "TemplateEngine$Data", name := "write", desc := "(LTemplateEngine$Output;)V" } : Jvm.MethodName) ({ cls := "TemplateEngine$ListData", name := "write", desc := "(LTemplateEngine$Output;)V" } : Jvm.MethodName)) ∈ lw_all := lw_g (lw_at lw_m7 118 rfl) rfl
theorem q1660 : (Jvm.Cond.selects "TemplateEngine$ListData" ({ cls := "TemplateEngine$Data", name := "size", desc := "()I" } : Jvm.MethodName) ({ cls := "TemplateEngine$ListData", name := "size", desc := "()I" } : Jvm.MethodName)) ∈ lw_all := lw_g (lw_at lw_m7 149 rfl) rfl
theorem q1661 : (Jvm.Cond.instanceMethod ({ cls := "TemplateEngine$ListData", name := "size", desc := "()I" } : Jvm.MethodName)) ∈ lw_all := lw_g (lw_at lw_m7 150 rfl) rfl
theorem q1662 : (Jvm.Cond.code ({ cls := "TemplateEngine$ListData", name := "size", desc := "()I" } : Jvm.MethodName) prog_8_method_3_code (1 : Nat) (Option.some Jvm.ClassFile.FieldType.int)) ∈ lw_all := lw_g (lw_at lw_m7 151 rfl) rfl
theorem q1682 : (Jvm.Cond.selects "TemplateEngine$ListData" ({ cls := "TemplateEngine$Data", name := "isFalse", desc := "()Z" } : Jvm.MethodName) ({ cls := "TemplateEngine$ListData", name := "isFalse", desc := "()Z" } : Jvm.MethodName)) ∈ lw_all := lw_g (lw_at lw_m7 171 rfl) rfl
theorem q1683 : (Jvm.Cond.instanceMethod ({ cls := "TemplateEngine$ListData", name := "isFalse", desc := "()Z" } : Jvm.MethodName)) ∈ lw_all := lw_g (lw_at lw_m7 172 rfl) rfl
theorem q1684 : (Jvm.Cond.code ({ cls := "TemplateEngine$ListData", name := "isFalse", desc := "()Z" } : Jvm.MethodName) prog_8_method_4_code (1 : Nat) (Option.some Jvm.ClassFile.FieldType.boolean)) ∈ lw_all := lw_g (lw_at lw_m7 173 rfl) rfl
theorem q2271 : (Jvm.Cond.sameMethod "TemplateEngine$ListData" "TemplateEngine$ListData" "element" "(I)LTemplateEngine$Data;") ∈ lw_all := lw_g (lw_at lw_m10 40 rfl) rfl
theorem q2272 : (Jvm.Cond.selects "TemplateEngine$ListData" ({ cls := "TemplateEngine$ListData", name := "element", desc := "(I)LTemplateEngine$Data;" } : Jvm.MethodName) ({ cls := "TemplateEngine$ListData", name := "element", desc := "(I)LTemplateEngine$Data;" } : Jvm.MethodName)) ∈ lw_all := lw_g (lw_at lw_m10 41 rfl) rfl
theorem q2279 : (Jvm.Cond.castable "TemplateEngine$ListData" "TemplateEngine$Data") ∈ lw_tbl := lw_at lw_m10 48 rfl
theorem q2298 : (Jvm.Cond.castable "TemplateEngine$ListData" "java/lang/Object") ∈ lw_tbl := lw_at lw_m10 67 rfl
theorem in_X7 : ∀ w ∈ wsX70, w ∈ lw_all := lw_in wsX70 [812, 808, 810] (by decide +kernel) (by decide +kernel)

/-! TemplateEngine$MapData -/
set_option maxRecDepth 100000
def RX8 : String := "TemplateEngine$MapData"
def TX8 : u_T := fun k => match k with
  | 0 => ("TemplateEngine$Data", "asked", "I", false)
  | 1 => ("TemplateEngine$ListData", "elements", "[LTemplateEngine$Data;", true)
  | 2 => ("TemplateEngine$ListData", "count", "I", false)
  | _ => ("TemplateEngine$MapData", "names", "[Ljava/lang/String;", true)
def tyX8 : Nat → FieldType := fun k => match k with
  | 0 => .int
  | 1 => .array (.object "TemplateEngine$Data")
  | 2 => .int
  | _ => .array (.object "java/lang/String")
abbrev wsX80 : List Cond := u_ws RX8 TX8 4
theorem nmX8 : ∀ a, a < 4 → ∀ b, b < 4 → a ≠ b → (TX8 a).2.1 ≠ (TX8 b).2.1 := by decide +kernel
theorem tyX8_ok : ∀ k, k < 4 → parseFieldDescriptor (TX8 k).2.2.1 = some (tyX8 k) := by decide +kernel
abbrev cX8_init : ByteArray := prog_9_method_1_code
def yX8_init : MethodName := ⟨RX8, "<init>", "()V"⟩
def dkwX8_init_0 : List UInt8 := [42, 183, 0, 1, 42, 16, 10, 189, 0, 7, 181, 0, 9, 177]
abbrev dktX8_init_0 : List UInt8 := dkwX8_init_0 ++ []
theorem dksX8_init_0 : cX8_init.data.toList.drop 0 = dktX8_init_0 := by decide +kernel
theorem dX8_init_0 : decode cX8_init 0 = .ok (.aload_n 0, 1) := dk_42 (dk_at dksX8_init_0 0 rfl rfl)
theorem dX8_init_1 : decode cX8_init 1 = .ok (.invokespecial 1, 3) := dk_183 0 1 (dk_at dksX8_init_0 1 rfl rfl)
theorem dX8_init_4 : decode cX8_init 4 = .ok (.aload_n 0, 1) := dk_42 (dk_at dksX8_init_0 4 rfl rfl)
theorem dX8_init_5 : decode cX8_init 5 = .ok (.bipush 10, 2) := dk_16 10 (dk_at dksX8_init_0 5 rfl rfl)
theorem dX8_init_7 : decode cX8_init 7 = .ok (.anewarray 7, 3) := dk_189 0 7 (dk_at dksX8_init_0 7 rfl rfl)
theorem dX8_init_10 : decode cX8_init 10 = .ok (.putfield 9, 3) := dk_181 0 9 (dk_at dksX8_init_0 10 rfl rfl)
theorem dX8_init_13 : decode cX8_init 13 = .ok (.return_, 1) := dk_177 (dk_at dksX8_init_0 13 rfl rfl)
abbrev cX8_kind : ByteArray := prog_9_method_2_code
def yX8_kind : MethodName := ⟨RX8, "kind", "()I"⟩
theorem dX8_kind_0 : decode cX8_kind 0 = .ok (.iconst 3, 1) := by decide +kernel
theorem dX8_kind_1 : decode cX8_kind 1 = .ok (.ireturn, 1) := by decide +kernel
abbrev cX8_place : ByteArray := prog_9_method_5_code
def yX8_place : MethodName := ⟨RX8, "place", "(Ljava/lang/String;)I"⟩
def dkwX8_place_1 : List UInt8 := [172, 132, 2, 1, 167, 255, 230, 2, 172]
abbrev dktX8_place_1 : List UInt8 := dkwX8_place_1 ++ []
def dkwX8_place_0 : List UInt8 := [3, 61, 28, 42, 180, 0, 23, 162, 0, 24, 42, 180, 0, 9, 28, 50, 43, 182, 0, 27, 153, 0, 5, 28]
abbrev dktX8_place_0 : List UInt8 := dkwX8_place_0 ++ dktX8_place_1
theorem dksX8_place_0 : cX8_place.data.toList.drop 0 = dktX8_place_0 := by decide +kernel
theorem dksX8_place_1 : cX8_place.data.toList.drop 24 = dktX8_place_1 := dk_seg dksX8_place_0 24 rfl rfl
theorem dX8_place_0 : decode cX8_place 0 = .ok (.iconst 0, 1) := dk_3 (dk_at dksX8_place_0 0 rfl rfl)
theorem dX8_place_1 : decode cX8_place 1 = .ok (.istore_n 2, 1) := dk_61 (dk_at dksX8_place_0 1 rfl rfl)
theorem dX8_place_2 : decode cX8_place 2 = .ok (.iload_n 2, 1) := dk_28 (dk_at dksX8_place_0 2 rfl rfl)
theorem dX8_place_3 : decode cX8_place 3 = .ok (.aload_n 0, 1) := dk_42 (dk_at dksX8_place_0 3 rfl rfl)
theorem dX8_place_4 : decode cX8_place 4 = .ok (.getfield 23, 3) := dk_180 0 23 (dk_at dksX8_place_0 4 rfl rfl)
theorem dX8_place_7 : decode cX8_place 7 = .ok (.if_icmp .ge 24, 3) := dk_162 0 24 (dk_at dksX8_place_0 7 rfl rfl)
theorem dX8_place_10 : decode cX8_place 10 = .ok (.aload_n 0, 1) := dk_42 (dk_at dksX8_place_0 10 rfl rfl)
theorem dX8_place_11 : decode cX8_place 11 = .ok (.getfield 9, 3) := dk_180 0 9 (dk_at dksX8_place_0 11 rfl rfl)
theorem dX8_place_14 : decode cX8_place 14 = .ok (.iload_n 2, 1) := dk_28 (dk_at dksX8_place_0 14 rfl rfl)
theorem dX8_place_15 : decode cX8_place 15 = .ok (.aaload, 1) := dk_50 (dk_at dksX8_place_0 15 rfl rfl)
theorem dX8_place_16 : decode cX8_place 16 = .ok (.aload_n 1, 1) := dk_43 (dk_at dksX8_place_0 16 rfl rfl)
theorem dX8_place_17 : decode cX8_place 17 = .ok (.invokevirtual 27, 3) := dk_182 0 27 (dk_at dksX8_place_0 17 rfl rfl)
theorem dX8_place_20 : decode cX8_place 20 = .ok (.ifCond .eq 5, 3) := dk_153 0 5 (dk_at dksX8_place_0 20 rfl rfl)
theorem dX8_place_23 : decode cX8_place 23 = .ok (.iload_n 2, 1) := dk_28 (dk_at dksX8_place_0 23 rfl rfl)
theorem dX8_place_24 : decode cX8_place 24 = .ok (.ireturn, 1) := dk_172 (dk_at dksX8_place_1 0 rfl rfl)
theorem dX8_place_25 : decode cX8_place 25 = .ok (.iinc 2 1, 3) := dk_132 2 1 (dk_at dksX8_place_1 1 rfl rfl)
theorem dX8_place_28 : decode cX8_place 28 = .ok (.goto (-26), 3) := dk_167 255 230 (dk_at dksX8_place_1 4 rfl rfl)
theorem dX8_place_31 : decode cX8_place 31 = .ok (.iconst (-1), 1) := dk_2 (dk_at dksX8_place_1 7 rfl rfl)
theorem dX8_place_32 : decode cX8_place 32 = .ok (.ireturn, 1) := dk_172 (dk_at dksX8_place_1 8 rfl rfl)
abbrev cX8_put : ByteArray := prog_9_method_7_code
def yX8_put : MethodName := ⟨RX8, "put", "(Ljava/lang/String;LTemplateEngine$Data;)V"⟩
def dkwX8_put_1 : List UInt8 := [181, 0, 23, 42, 180, 0, 9, 29, 43, 83, 42, 180, 0, 35, 29, 44, 83, 177]
abbrev dktX8_put_1 : List UInt8 := dkwX8_put_1 ++ []
def dkwX8_put_0 : List UInt8 := [42, 43, 182, 0, 31, 62, 29, 156, 0, 18, 42, 180, 0, 23, 62, 42, 89, 180, 0, 23, 4, 96]
abbrev dktX8_put_0 : List UInt8 := dkwX8_put_0 ++ dktX8_put_1
theorem dksX8_put_0 : cX8_put.data.toList.drop 0 = dktX8_put_0 := by decide +kernel
theorem dksX8_put_1 : cX8_put.data.toList.drop 22 = dktX8_put_1 := dk_seg dksX8_put_0 22 rfl rfl
theorem dX8_put_0 : decode cX8_put 0 = .ok (.aload_n 0, 1) := dk_42 (dk_at dksX8_put_0 0 rfl rfl)
theorem dX8_put_1 : decode cX8_put 1 = .ok (.aload_n 1, 1) := dk_43 (dk_at dksX8_put_0 1 rfl rfl)
theorem dX8_put_2 : decode cX8_put 2 = .ok (.invokevirtual 31, 3) := dk_182 0 31 (dk_at dksX8_put_0 2 rfl rfl)
theorem dX8_put_5 : decode cX8_put 5 = .ok (.istore_n 3, 1) := dk_62 (dk_at dksX8_put_0 5 rfl rfl)
theorem dX8_put_6 : decode cX8_put 6 = .ok (.iload_n 3, 1) := dk_29 (dk_at dksX8_put_0 6 rfl rfl)
theorem dX8_put_7 : decode cX8_put 7 = .ok (.ifCond .ge 18, 3) := dk_156 0 18 (dk_at dksX8_put_0 7 rfl rfl)
theorem dX8_put_10 : decode cX8_put 10 = .ok (.aload_n 0, 1) := dk_42 (dk_at dksX8_put_0 10 rfl rfl)
theorem dX8_put_11 : decode cX8_put 11 = .ok (.getfield 23, 3) := dk_180 0 23 (dk_at dksX8_put_0 11 rfl rfl)
theorem dX8_put_14 : decode cX8_put 14 = .ok (.istore_n 3, 1) := dk_62 (dk_at dksX8_put_0 14 rfl rfl)
theorem dX8_put_15 : decode cX8_put 15 = .ok (.aload_n 0, 1) := dk_42 (dk_at dksX8_put_0 15 rfl rfl)
theorem dX8_put_16 : decode cX8_put 16 = .ok (.dup, 1) := dk_89 (dk_at dksX8_put_0 16 rfl rfl)
theorem dX8_put_17 : decode cX8_put 17 = .ok (.getfield 23, 3) := dk_180 0 23 (dk_at dksX8_put_0 17 rfl rfl)
theorem dX8_put_20 : decode cX8_put 20 = .ok (.iconst 1, 1) := dk_4 (dk_at dksX8_put_0 20 rfl rfl)
theorem dX8_put_21 : decode cX8_put 21 = .ok (.iadd, 1) := dk_96 (dk_at dksX8_put_0 21 rfl rfl)
theorem dX8_put_22 : decode cX8_put 22 = .ok (.putfield 23, 3) := dk_181 0 23 (dk_at dksX8_put_1 0 rfl rfl)
theorem dX8_put_25 : decode cX8_put 25 = .ok (.aload_n 0, 1) := dk_42 (dk_at dksX8_put_1 3 rfl rfl)
theorem dX8_put_26 : decode cX8_put 26 = .ok (.getfield 9, 3) := dk_180 0 9 (dk_at dksX8_put_1 4 rfl rfl)
theorem dX8_put_29 : decode cX8_put 29 = .ok (.iload_n 3, 1) := dk_29 (dk_at dksX8_put_1 7 rfl rfl)
theorem dX8_put_30 : decode cX8_put 30 = .ok (.aload_n 1, 1) := dk_43 (dk_at dksX8_put_1 8 rfl rfl)
theorem dX8_put_31 : decode cX8_put 31 = .ok (.aastore, 1) := dk_83 (dk_at dksX8_put_1 9 rfl rfl)
theorem dX8_put_32 : decode cX8_put 32 = .ok (.aload_n 0, 1) := dk_42 (dk_at dksX8_put_1 10 rfl rfl)
theorem dX8_put_33 : decode cX8_put 33 = .ok (.getfield 35, 3) := dk_180 0 35 (dk_at dksX8_put_1 11 rfl rfl)
theorem dX8_put_36 : decode cX8_put 36 = .ok (.iload_n 3, 1) := dk_29 (dk_at dksX8_put_1 14 rfl rfl)
theorem dX8_put_37 : decode cX8_put 37 = .ok (.aload_n 2, 1) := dk_44 (dk_at dksX8_put_1 15 rfl rfl)
theorem dX8_put_38 : decode cX8_put 38 = .ok (.aastore, 1) := dk_83 (dk_at dksX8_put_1 16 rfl rfl)
theorem dX8_put_39 : decode cX8_put 39 = .ok (.return_, 1) := dk_177 (dk_at dksX8_put_1 17 rfl rfl)
abbrev cX8_member : ByteArray := prog_9_method_6_code
def yX8_member : MethodName := ⟨RX8, "member", "(Ljava/lang/String;)LTemplateEngine$Data;"⟩
def dkwX8_member_0 : List UInt8 := [42, 43, 182, 0, 31, 61, 28, 156, 0, 7, 1, 167, 0, 9, 42, 180, 0, 35, 28, 50, 176]
abbrev dktX8_member_0 : List UInt8 := dkwX8_member_0 ++ []
theorem dksX8_member_0 : cX8_member.data.toList.drop 0 = dktX8_member_0 := by decide +kernel
theorem dX8_member_0 : decode cX8_member 0 = .ok (.aload_n 0, 1) := dk_42 (dk_at dksX8_member_0 0 rfl rfl)
theorem dX8_member_1 : decode cX8_member 1 = .ok (.aload_n 1, 1) := dk_43 (dk_at dksX8_member_0 1 rfl rfl)
theorem dX8_member_2 : decode cX8_member 2 = .ok (.invokevirtual 31, 3) := dk_182 0 31 (dk_at dksX8_member_0 2 rfl rfl)
theorem dX8_member_5 : decode cX8_member 5 = .ok (.istore_n 2, 1) := dk_61 (dk_at dksX8_member_0 5 rfl rfl)
theorem dX8_member_6 : decode cX8_member 6 = .ok (.iload_n 2, 1) := dk_28 (dk_at dksX8_member_0 6 rfl rfl)
theorem dX8_member_7 : decode cX8_member 7 = .ok (.ifCond .ge 7, 3) := dk_156 0 7 (dk_at dksX8_member_0 7 rfl rfl)
theorem dX8_member_10 : decode cX8_member 10 = .ok (.aconst_null, 1) := dk_1 (dk_at dksX8_member_0 10 rfl rfl)
theorem dX8_member_11 : decode cX8_member 11 = .ok (.goto 9, 3) := dk_167 0 9 (dk_at dksX8_member_0 11 rfl rfl)
theorem dX8_member_14 : decode cX8_member 14 = .ok (.aload_n 0, 1) := dk_42 (dk_at dksX8_member_0 14 rfl rfl)
theorem dX8_member_15 : decode cX8_member 15 = .ok (.getfield 35, 3) := dk_180 0 35 (dk_at dksX8_member_0 15 rfl rfl)
theorem dX8_member_18 : decode cX8_member 18 = .ok (.iload_n 2, 1) := dk_28 (dk_at dksX8_member_0 18 rfl rfl)
theorem dX8_member_19 : decode cX8_member 19 = .ok (.aaload, 1) := dk_50 (dk_at dksX8_member_0 19 rfl rfl)
theorem dX8_member_20 : decode cX8_member 20 = .ok (.areturn, 1) := dk_176 (dk_at dksX8_member_0 20 rfl rfl)
abbrev cX8_write : ByteArray := prog_9_method_4_code
def yX8_write : MethodName := ⟨RX8, "write", "(LTemplateEngine$Output;)V"⟩
def dkwX8_write_0 : List UInt8 := [43, 18, 15, 182, 0, 17, 177]
abbrev dktX8_write_0 : List UInt8 := dkwX8_write_0 ++ []
theorem dksX8_write_0 : cX8_write.data.toList.drop 0 = dktX8_write_0 := by decide +kernel
theorem dX8_write_0 : decode cX8_write 0 = .ok (.aload_n 1, 1) := dk_43 (dk_at dksX8_write_0 0 rfl rfl)
theorem dX8_write_1 : decode cX8_write 1 = .ok (.ldc 15, 2) := dk_18 15 (dk_at dksX8_write_0 1 rfl rfl)
theorem dX8_write_3 : decode cX8_write 3 = .ok (.invokevirtual 17, 3) := dk_182 0 17 (dk_at dksX8_write_0 3 rfl rfl)
theorem dX8_write_6 : decode cX8_write 6 = .ok (.return_, 1) := dk_177 (dk_at dksX8_write_0 6 rfl rfl)
abbrev cX8_isFalse : ByteArray := prog_9_method_3_code
def yX8_isFalse : MethodName := ⟨RX8, "isFalse", "()Z"⟩
theorem dX8_isFalse_0 : decode cX8_isFalse 0 = .ok (.iconst 0, 1) := by decide +kernel
theorem dX8_isFalse_1 : decode cX8_isFalse 1 = .ok (.ireturn, 1) := by decide +kernel
theorem q102 : (Jvm.Cond.initialized "TemplateEngine$MapData") ∈ lw_all := lw_g (lw_at lw_m1 31 rfl) rfl
theorem q663 : (Jvm.Cond.selects "TemplateEngine$MapData" ({ cls := "java/lang/Object", name := "getClass", desc := "()Ljava/lang/Class;" } : Jvm.MethodName) ({ cls := "java/lang/Object", name := "getClass", desc := "()Ljava/lang/Class;" } : Jvm.MethodName)) ∈ lw_all := lw_g (lw_at lw_m3 112 rfl) rfl
theorem q800 : (Jvm.Cond.fieldLink "TemplateEngine$MapData" (35 : Nat) "TemplateEngine$MapData" "elements" "[LTemplateEngine$Data;") ∈ lw_all := lw_g (lw_at lw_m4 9 rfl) rfl
theorem q801 : (Jvm.Cond.sameField "TemplateEngine$MapData" "TemplateEngine$ListData" "elements" "[LTemplateEngine$Data;") ∈ lw_all := lw_g (lw_at lw_m4 10 rfl) rfl
theorem q804 : (Jvm.Cond.fieldLink "TemplateEngine$MapData" (23 : Nat) "TemplateEngine$MapData" "count" "I") ∈ lw_all := lw_g (lw_at lw_m4 13 rfl) rfl
theorem q805 : (Jvm.Cond.sameField "TemplateEngine$MapData" "TemplateEngine$ListData" "count" "I") ∈ lw_all := lw_g (lw_at lw_m4 14 rfl) rfl
theorem q822 : (Jvm.Cond.instantiable "TemplateEngine$MapData" (4 : Nat)) ∈ lw_all := lw_g (lw_at lw_m4 31 rfl) rfl
theorem q824 : (Jvm.Cond.instanceMethod ({ cls := "TemplateEngine$MapData", name := "<init>", desc := "()V" } : Jvm.MethodName)) ∈ lw_all := lw_g (lw_at lw_m4 33 rfl) rfl
theorem q825 : (Jvm.Cond.code ({ cls := "TemplateEngine$MapData", name := "<init>", desc := "()V" } : Jvm.MethodName) prog_9_method_1_code (1 : Nat) (Option.none : Option Jvm.ClassFile.FieldType)) ∈ lw_all := lw_g (lw_at lw_m4 34 rfl) rfl
theorem q826 : (Jvm.Cond.methodLinkNest "TemplateEngine$MapData" (1 : Nat) ({ cls := "TemplateEngine$ListData", name := "<init>", desc := "()V" } : Jvm.MethodName) "TemplateEngine") ∈ lw_tbl := lw_at lw_m4 35 rfl
theorem q827 : (Jvm.Cond.classLink "TemplateEngine$MapData" (7 : Nat) "java/lang/String") ∈ lw_all := lw_g (lw_at lw_m4 36 rfl) rfl
theorem q829 : (Jvm.Cond.fieldLink "TemplateEngine$MapData" (9 : Nat) "TemplateEngine$MapData" "names" "[Ljava/lang/String;") ∈ lw_all := lw_g (lw_at lw_m4 38 rfl) rfl
theorem q830 : (Jvm.Cond.laysFinal "TemplateEngine$MapData" "TemplateEngine$MapData" "names" "[Ljava/lang/String;") ∈ lw_all := lw_g (lw_at lw_m4 39 rfl) rfl
theorem q831 : (Jvm.Cond.soleField "TemplateEngine$MapData" "names") ∈ lw_all := lw_g (lw_at lw_m4 40 rfl) rfl
theorem q832 : (Jvm.Cond.laysFinal "TemplateEngine$MapData" "TemplateEngine$ListData" "elements" "[LTemplateEngine$Data;") ∈ lw_all := lw_g (lw_at lw_m4 41 rfl) rfl
theorem q833 : (Jvm.Cond.lays "TemplateEngine$MapData" "TemplateEngine$ListData" "count" "I") ∈ lw_all := lw_g (lw_at lw_m4 42 rfl) rfl
theorem q834 : (Jvm.Cond.lays "TemplateEngine$MapData" "TemplateEngine$Data" "asked" "I") ∈ lw_all := lw_g (lw_at lw_m4 43 rfl) rfl
theorem q835 : (Jvm.Cond.superclass "TemplateEngine$MapData" "TemplateEngine$ListData") ∈ lw_all := lw_g (lw_at lw_m4 44 rfl) rfl
theorem q889 : (Jvm.Cond.selects "TemplateEngine$MapData" ({ cls := "TemplateEngine$Data", name := "kind", desc := "()I" } : Jvm.MethodName) ({ cls := "TemplateEngine$MapData", name := "kind", desc := "()I" } : Jvm.MethodName)) ∈ lw_all := lw_g (lw_at lw_m4 98 rfl) rfl
theorem q890 : (Jvm.Cond.instanceMethod ({ cls := "TemplateEngine$MapData", name := "kind", desc := "()I" } : Jvm.MethodName)) ∈ lw_all := lw_g (lw_at lw_m4 99 rfl) rfl
theorem q891 : (Jvm.Cond.code ({ cls := "TemplateEngine$MapData", name := "kind", desc := "()I" } : Jvm.MethodName) prog_9_method_2_code (1 : Nat) (Option.some Jvm.ClassFile.FieldType.int)) ∈ lw_all := lw_g (lw_at lw_m4 100 rfl) rfl
theorem q903 : (Jvm.Cond.selects "TemplateEngine$MapData" ({ cls := "TemplateEngine$Data", name := "contains", desc := "(LTemplateEngine$Data;I)Z" } : Jvm.MethodName) ({ cls := "TemplateEngine$Data", name := "contains", desc := "(LTemplateEngine$Data;I)Z" } : Jvm.MethodName)) ∈ lw_all := lw_g (lw_at lw_m4 112 rfl) rfl
theorem q914 : (Jvm.Cond.selects "TemplateEngine$MapData" ({ cls := "TemplateEngine$Data", name := "turns", desc := "()I" } : Jvm.MethodName) ({ cls := "TemplateEngine$ListData", name := "turns", desc := "()I" } : Jvm.MethodName)) ∈ lw_all := lw_g (lw_at lw_m4 123 rfl) rfl
theorem q925 : (Jvm.Cond.selects "TemplateEngine$MapData" ({ cls := "TemplateEngine$Data", name := "element", desc := "(I)LTemplateEngine$Data;" } : Jvm.MethodName) ({ cls := "TemplateEngine$ListData", name := "element", desc := "(I)LTemplateEngine$Data;" } : Jvm.MethodName)) ∈ lw_all := lw_g (lw_at lw_m4 134 rfl) rfl
theorem q961 : (Jvm.Cond.instanceMethod ({ cls := "TemplateEngine$MapData", name := "place", desc := "(Ljava/lang/String;)I" } : Jvm.MethodName)) ∈ lw_all := lw_g (lw_at lw_m4 170 rfl) rfl
theorem q962 : (Jvm.Cond.selects "TemplateEngine$MapData" ({ cls := "TemplateEngine$MapData", name := "place", desc := "(Ljava/lang/String;)I" } : Jvm.MethodName) ({ cls := "TemplateEngine$MapData", name := "place", desc := "(Ljava/lang/String;)I" } : Jvm.MethodName)) ∈ lw_all := lw_g (lw_at lw_m4 171 rfl) rfl
theorem q963 : (Jvm.Cond.code ({ cls := "TemplateEngine$MapData", name := "place", desc := "(Ljava/lang/String;)I" } : Jvm.MethodName) prog_9_method_5_code (3 : Nat) (Option.some Jvm.ClassFile.FieldType.int)) ∈ lw_all := lw_g (lw_at lw_m4 172 rfl) rfl
theorem q964 : (Jvm.Cond.methodLink "TemplateEngine$MapData" (27 : Nat) ({ cls := "java/lang/String", name := "equals", desc := "(Ljava/lang/Object;)Z" } : Jvm.MethodName)) ∈ lw_all := lw_g (lw_at lw_m4 173 rfl) rfl
theorem q973 : (Jvm.Cond.instanceMethod ({ cls := "TemplateEngine$MapData", name := "put", desc := "(Ljava/lang/String;LTemplateEngine$Data;)V" } : Jvm.MethodName)) ∈ lw_all := lw_g (lw_at lw_m4 182 rfl) rfl
theorem q974 : (Jvm.Cond.selects "TemplateEngine$MapData" ({ cls := "TemplateEngine$MapData", name := "put", desc := "(Ljava/lang/String;LTemplateEngine$Data;)V" } : Jvm.MethodName) ({ cls := "TemplateEngine$MapData", name := "put", desc := "(Ljava/lang/String;LTemplateEngine$Data;)V" } : Jvm.MethodName)) ∈ lw_all := lw_g (lw_at lw_m4 183 rfl) rfl
theorem q975 : (Jvm.Cond.code ({ cls := "TemplateEngine$MapData", name := "put", desc := "(Ljava/lang/String;LTemplateEngine$Data;)V" } : Jvm.MethodName) prog_9_method_7_code (4 : Nat) (Option.none : Option Jvm.ClassFile.FieldType)) ∈ lw_all := lw_g (lw_at lw_m4 184 rfl) rfl
theorem q976 : (Jvm.Cond.methodLink "TemplateEngine$MapData" (31 : Nat) ({ cls := "TemplateEngine$MapData", name := "place", desc := "(Ljava/lang/String;)I" } : Jvm.MethodName)) ∈ lw_all := lw_g (lw_at lw_m4 185 rfl) rfl
theorem q1536 : (Jvm.Cond.selects "TemplateEngine$MapData" ({ cls := "TemplateEngine$Data", name := "member", desc := "(Ljava/lang/String;)LTemplateEngine$Data;" } : Jvm.MethodName) ({ cls := "TemplateEngine$MapData", name := "member", desc := "(Ljava/lang/String;)LTemplateEngine$Data;" } : Jvm.MethodName)) ∈ lw_all := lw_g (lw_at lw_m7 25 rfl) rfl
theorem q1537 : (Jvm.Cond.instanceMethod ({ cls := "TemplateEngine$MapData", name := "member", desc := "(Ljava/lang/String;)LTemplateEngine$Data;" } : Jvm.MethodName)) ∈ lw_all := lw_g (lw_at lw_m7 26 rfl) rfl
theorem q1538 : (Jvm.Cond.code ({ cls := "TemplateEngine$MapData", name := "member", desc := "(Ljava/lang/String;)LTemplateEngine$Data;" } : Jvm.MethodName) prog_9_method_6_code (3 : Nat) (Option.some (Jvm.ClassFile.FieldType.object "TemplateEngine$Data"))) ∈ lw_all := lw_g (lw_at lw_m7 27 rfl) rfl
theorem q1591 : (Jvm.Cond.instanceMethod ({ cls := "TemplateEngine$MapData", name := "write", desc := "(LTemplateEngine$Output;)V" } : Jvm.MethodName)) ∈ lw_all := lw_g (lw_at lw_m7 80 rfl) rfl
theorem q1592 : (Jvm.Cond.code ({ cls := "TemplateEngine$MapData", name := "write", desc := "(LTemplateEngine$Output;)V" } : Jvm.MethodName) prog_9_method_4_code (2 : Nat) (Option.none : Option Jvm.ClassFile.FieldType)) ∈ lw_all := lw_g (lw_at lw_m7 81 rfl) rfl
theorem q1593 : (Jvm.Cond.stringRef "TemplateEngine$MapData" (15 : Nat) "[map]") ∈ lw_tbl := lw_at lw_m7 82 rfl
theorem q1594 : (Jvm.Cond.methodLink "TemplateEngine$MapData" (17 : Nat) ({ cls := "TemplateEngine$Output", name := "add", desc := "(Ljava/lang/String;)V" } : Jvm.MethodName)) ∈ lw_all := lw_g (lw_at lw_m7 83 rfl) rfl
theorem q1630 : (Jvm.Cond.selects "TemplateEngine$MapData" ({ cls := "TemplateEngine$Data", name := "write", desc := "(LTemplateEngine$Output;)V" } : Jvm.MethodName) ({ cls := "TemplateEngine$MapData", name := "write", desc := "(LTemplateEngine$Output;)V" } : Jvm.MethodName)) ∈ lw_all := lw_g (lw_at lw_m7 119 rfl) rfl
theorem q1663 : (Jvm.Cond.selects "TemplateEngine$MapData" ({ cls := "TemplateEngine$Data", name := "size", desc := "()I" } : Jvm.MethodName) ({ cls := "TemplateEngine$ListData", name := "size", desc := "()I" } : Jvm.MethodName)) ∈ lw_all := lw_g (lw_at lw_m7 152 rfl) rfl
theorem q1685 : (Jvm.Cond.selects "TemplateEngine$MapData" ({ cls := "TemplateEngine$Data", name := "isFalse", desc := "()Z" } : Jvm.MethodName) ({ cls := "TemplateEngine$MapData", name := "isFalse", desc := "()Z" } : Jvm.MethodName)) ∈ lw_all := lw_g (lw_at lw_m7 174 rfl) rfl
theorem q1686 : (Jvm.Cond.instanceMethod ({ cls := "TemplateEngine$MapData", name := "isFalse", desc := "()Z" } : Jvm.MethodName)) ∈ lw_all := lw_g (lw_at lw_m7 175 rfl) rfl
theorem q1687 : (Jvm.Cond.code ({ cls := "TemplateEngine$MapData", name := "isFalse", desc := "()Z" } : Jvm.MethodName) prog_9_method_3_code (1 : Nat) (Option.some Jvm.ClassFile.FieldType.boolean)) ∈ lw_all := lw_g (lw_at lw_m7 176 rfl) rfl
theorem q2273 : (Jvm.Cond.selects "TemplateEngine$MapData" ({ cls := "TemplateEngine$ListData", name := "element", desc := "(I)LTemplateEngine$Data;" } : Jvm.MethodName) ({ cls := "TemplateEngine$ListData", name := "element", desc := "(I)LTemplateEngine$Data;" } : Jvm.MethodName)) ∈ lw_all := lw_g (lw_at lw_m10 42 rfl) rfl
theorem q2280 : (Jvm.Cond.castable "TemplateEngine$MapData" "TemplateEngine$Data") ∈ lw_tbl := lw_at lw_m10 49 rfl
theorem q2283 : (Jvm.Cond.castable "TemplateEngine$MapData" "TemplateEngine$ListData") ∈ lw_tbl := lw_at lw_m10 52 rfl
theorem q2299 : (Jvm.Cond.castable "TemplateEngine$MapData" "java/lang/Object") ∈ lw_tbl := lw_at lw_m10 68 rfl
theorem in_X8 : ∀ w ∈ wsX80, w ∈ lw_all := lw_in wsX80 [834, 832, 833, 830] (by decide +kernel) (by decide +kernel)

/-! TemplateEngine$Parser -/
set_option maxRecDepth 100000
def RX9 : String := "TemplateEngine$Parser"
def TX9 : u_T := fun k => match k with
  | 0 => ("TemplateEngine$Parser", "engine", "LTemplateEngine;", true)
  | 1 => ("TemplateEngine$Parser", "s", "Ljava/lang/String;", true)
  | 2 => ("TemplateEngine$Parser", "at", "I", false)
  | 3 => ("TemplateEngine$Parser", "tags", "I", false)
  | 4 => ("TemplateEngine$Parser", "place", "I", false)
  | 5 => ("TemplateEngine$Parser", "triple", "Z", false)
  | _ => ("TemplateEngine$Parser", "inside", "Ljava/lang/String;", false)
def tyX9 : Nat → FieldType := fun k => match k with
  | 0 => .object "TemplateEngine"
  | 1 => .object "java/lang/String"
  | 2 => .int
  | 3 => .int
  | 4 => .int
  | 5 => .boolean
  | _ => .object "java/lang/String"
abbrev wsX90 : List Cond := u_ws RX9 TX9 7
theorem nmX9 : ∀ a, a < 7 → ∀ b, b < 7 → a ≠ b → (TX9 a).2.1 ≠ (TX9 b).2.1 := by decide +kernel
theorem tyX9_ok : ∀ k, k < 7 → parseFieldDescriptor (TX9 k).2.2.1 = some (tyX9 k) := by decide +kernel
abbrev cX9_init : ByteArray := prog_13_method_1_code
def yX9_init : MethodName := ⟨RX9, "<init>", "(LTemplateEngine;Ljava/lang/String;)V"⟩
def dkwX9_init_0 : List UInt8 := [42, 183, 0, 1, 42, 43, 181, 0, 7, 42, 44, 181, 0, 13, 177]
abbrev dktX9_init_0 : List UInt8 := dkwX9_init_0 ++ []
theorem dksX9_init_0 : cX9_init.data.toList.drop 0 = dktX9_init_0 := by decide +kernel
theorem dX9_init_0 : decode cX9_init 0 = .ok (.aload_n 0, 1) := dk_42 (dk_at dksX9_init_0 0 rfl rfl)
theorem dX9_init_1 : decode cX9_init 1 = .ok (.invokespecial 1, 3) := dk_183 0 1 (dk_at dksX9_init_0 1 rfl rfl)
theorem dX9_init_4 : decode cX9_init 4 = .ok (.aload_n 0, 1) := dk_42 (dk_at dksX9_init_0 4 rfl rfl)
theorem dX9_init_5 : decode cX9_init 5 = .ok (.aload_n 1, 1) := dk_43 (dk_at dksX9_init_0 5 rfl rfl)
theorem dX9_init_6 : decode cX9_init 6 = .ok (.putfield 7, 3) := dk_181 0 7 (dk_at dksX9_init_0 6 rfl rfl)
theorem dX9_init_9 : decode cX9_init 9 = .ok (.aload_n 0, 1) := dk_42 (dk_at dksX9_init_0 9 rfl rfl)
theorem dX9_init_10 : decode cX9_init 10 = .ok (.aload_n 2, 1) := dk_44 (dk_at dksX9_init_0 10 rfl rfl)
theorem dX9_init_11 : decode cX9_init 11 = .ok (.putfield 13, 3) := dk_181 0 13 (dk_at dksX9_init_0 11 rfl rfl)
theorem dX9_init_14 : decode cX9_init 14 = .ok (.return_, 1) := dk_177 (dk_at dksX9_init_0 14 rfl rfl)
abbrev cX9_parts : ByteArray := prog_13_method_5_code
def yX9_parts : MethodName := ⟨RX9, "parts", "(II)[LTemplateEngine$Part;"⟩
def dkwX9_parts_6 : List UInt8 := [182, 0, 113, 192, 0, 111, 83, 132, 5, 1, 167, 255, 231, 25, 4, 176]
abbrev dktX9_parts_6 : List UInt8 := dkwX9_parts_6 ++ []
def dkwX9_parts_5 : List UInt8 := [189, 0, 111, 58, 4, 3, 54, 5, 21, 5, 25, 4, 190, 162, 0, 23, 25, 4, 21, 5, 45, 21, 5]
abbrev dktX9_parts_5 : List UInt8 := dkwX9_parts_5 ++ dktX9_parts_6
def dkwX9_parts_4 : List UInt8 := [180, 0, 29, 184, 0, 56, 191, 45, 42, 27, 182, 0, 104, 182, 0, 94, 87, 167, 255, 155, 45, 182, 0, 108]
abbrev dktX9_parts_4 : List UInt8 := dkwX9_parts_4 ++ dktX9_parts_5
def dkwX9_parts_3 : List UInt8 := [154, 0, 29, 42, 180, 0, 63, 184, 0, 100, 153, 0, 19, 27, 154, 0, 28, 42, 180, 0, 7, 42]
abbrev dktX9_parts_3 : List UInt8 := dkwX9_parts_3 ++ dktX9_parts_4
def dkwX9_parts_2 : List UInt8 := [42, 180, 0, 7, 28, 184, 0, 56, 191, 42, 89, 180, 0, 97, 4, 96, 181, 0, 97, 42, 180, 0, 48]
abbrev dktX9_parts_2 : List UInt8 := dkwX9_parts_2 ++ dktX9_parts_3
def dkwX9_parts_1 : List UInt8 := [187, 0, 89, 89, 25, 4, 183, 0, 91, 182, 0, 94, 87, 42, 180, 0, 29, 156, 0, 16, 27, 158, 0, 68]
abbrev dktX9_parts_1 : List UInt8 := dkwX9_parts_1 ++ dktX9_parts_2
def dkwX9_parts_0 : List UInt8 := [187, 0, 78, 89, 183, 0, 80, 78, 42, 182, 0, 81, 58, 4, 25, 4, 182, 0, 85, 154, 0, 17, 45]
abbrev dktX9_parts_0 : List UInt8 := dkwX9_parts_0 ++ dktX9_parts_1
theorem dksX9_parts_0 : cX9_parts.data.toList.drop 0 = dktX9_parts_0 := by decide +kernel
theorem dksX9_parts_1 : cX9_parts.data.toList.drop 23 = dktX9_parts_1 := dk_seg dksX9_parts_0 23 rfl rfl
theorem dksX9_parts_2 : cX9_parts.data.toList.drop 47 = dktX9_parts_2 := dk_seg dksX9_parts_1 24 rfl rfl
theorem dksX9_parts_3 : cX9_parts.data.toList.drop 70 = dktX9_parts_3 := dk_seg dksX9_parts_2 23 rfl rfl
theorem dksX9_parts_4 : cX9_parts.data.toList.drop 92 = dktX9_parts_4 := dk_seg dksX9_parts_3 22 rfl rfl
theorem dksX9_parts_5 : cX9_parts.data.toList.drop 116 = dktX9_parts_5 := dk_seg dksX9_parts_4 24 rfl rfl
theorem dksX9_parts_6 : cX9_parts.data.toList.drop 139 = dktX9_parts_6 := dk_seg dksX9_parts_5 23 rfl rfl
theorem dX9_parts_0 : decode cX9_parts 0 = .ok (.new 78, 3) := dk_187 0 78 (dk_at dksX9_parts_0 0 rfl rfl)
theorem dX9_parts_3 : decode cX9_parts 3 = .ok (.dup, 1) := dk_89 (dk_at dksX9_parts_0 3 rfl rfl)
theorem dX9_parts_4 : decode cX9_parts 4 = .ok (.invokespecial 80, 3) := dk_183 0 80 (dk_at dksX9_parts_0 4 rfl rfl)
theorem dX9_parts_7 : decode cX9_parts 7 = .ok (.astore_n 3, 1) := dk_78 (dk_at dksX9_parts_0 7 rfl rfl)
theorem dX9_parts_8 : decode cX9_parts 8 = .ok (.aload_n 0, 1) := dk_42 (dk_at dksX9_parts_0 8 rfl rfl)
theorem dX9_parts_9 : decode cX9_parts 9 = .ok (.invokevirtual 81, 3) := dk_182 0 81 (dk_at dksX9_parts_0 9 rfl rfl)
theorem dX9_parts_12 : decode cX9_parts 12 = .ok (.astore 4, 2) := dk_58 4 (dk_at dksX9_parts_0 12 rfl rfl)
theorem dX9_parts_14 : decode cX9_parts 14 = .ok (.aload 4, 2) := dk_25 4 (dk_at dksX9_parts_0 14 rfl rfl)
theorem dX9_parts_16 : decode cX9_parts 16 = .ok (.invokevirtual 85, 3) := dk_182 0 85 (dk_at dksX9_parts_0 16 rfl rfl)
theorem dX9_parts_19 : decode cX9_parts 19 = .ok (.ifCond .ne 17, 3) := dk_154 0 17 (dk_at dksX9_parts_0 19 rfl rfl)
theorem dX9_parts_22 : decode cX9_parts 22 = .ok (.aload_n 3, 1) := dk_45 (dk_at dksX9_parts_0 22 rfl rfl)
theorem dX9_parts_23 : decode cX9_parts 23 = .ok (.new 89, 3) := dk_187 0 89 (dk_at dksX9_parts_1 0 rfl rfl)
theorem dX9_parts_26 : decode cX9_parts 26 = .ok (.dup, 1) := dk_89 (dk_at dksX9_parts_1 3 rfl rfl)
theorem dX9_parts_27 : decode cX9_parts 27 = .ok (.aload 4, 2) := dk_25 4 (dk_at dksX9_parts_1 4 rfl rfl)
theorem dX9_parts_29 : decode cX9_parts 29 = .ok (.invokespecial 91, 3) := dk_183 0 91 (dk_at dksX9_parts_1 6 rfl rfl)
theorem dX9_parts_32 : decode cX9_parts 32 = .ok (.invokevirtual 94, 3) := dk_182 0 94 (dk_at dksX9_parts_1 9 rfl rfl)
theorem dX9_parts_35 : decode cX9_parts 35 = .ok (.pop, 1) := dk_87 (dk_at dksX9_parts_1 12 rfl rfl)
theorem dX9_parts_36 : decode cX9_parts 36 = .ok (.aload_n 0, 1) := dk_42 (dk_at dksX9_parts_1 13 rfl rfl)
theorem dX9_parts_37 : decode cX9_parts 37 = .ok (.getfield 29, 3) := dk_180 0 29 (dk_at dksX9_parts_1 14 rfl rfl)
theorem dX9_parts_40 : decode cX9_parts 40 = .ok (.ifCond .ge 16, 3) := dk_156 0 16 (dk_at dksX9_parts_1 17 rfl rfl)
theorem dX9_parts_43 : decode cX9_parts 43 = .ok (.iload_n 1, 1) := dk_27 (dk_at dksX9_parts_1 20 rfl rfl)
theorem dX9_parts_44 : decode cX9_parts 44 = .ok (.ifCond .le 68, 3) := dk_158 0 68 (dk_at dksX9_parts_1 21 rfl rfl)
theorem dX9_parts_47 : decode cX9_parts 47 = .ok (.aload_n 0, 1) := dk_42 (dk_at dksX9_parts_2 0 rfl rfl)
theorem dX9_parts_48 : decode cX9_parts 48 = .ok (.getfield 7, 3) := dk_180 0 7 (dk_at dksX9_parts_2 1 rfl rfl)
theorem dX9_parts_51 : decode cX9_parts 51 = .ok (.iload_n 2, 1) := dk_28 (dk_at dksX9_parts_2 4 rfl rfl)
theorem dX9_parts_52 : decode cX9_parts 52 = .ok (.invokestatic 56, 3) := dk_184 0 56 (dk_at dksX9_parts_2 5 rfl rfl)
theorem dX9_parts_55 : decode cX9_parts 55 = .ok (.athrow, 1) := dk_191 (dk_at dksX9_parts_2 8 rfl rfl)
theorem dX9_parts_56 : decode cX9_parts 56 = .ok (.aload_n 0, 1) := dk_42 (dk_at dksX9_parts_2 9 rfl rfl)
theorem dX9_parts_57 : decode cX9_parts 57 = .ok (.dup, 1) := dk_89 (dk_at dksX9_parts_2 10 rfl rfl)
theorem dX9_parts_58 : decode cX9_parts 58 = .ok (.getfield 97, 3) := dk_180 0 97 (dk_at dksX9_parts_2 11 rfl rfl)
theorem dX9_parts_61 : decode cX9_parts 61 = .ok (.iconst 1, 1) := dk_4 (dk_at dksX9_parts_2 14 rfl rfl)
theorem dX9_parts_62 : decode cX9_parts 62 = .ok (.iadd, 1) := dk_96 (dk_at dksX9_parts_2 15 rfl rfl)
theorem dX9_parts_63 : decode cX9_parts 63 = .ok (.putfield 97, 3) := dk_181 0 97 (dk_at dksX9_parts_2 16 rfl rfl)
theorem dX9_parts_66 : decode cX9_parts 66 = .ok (.aload_n 0, 1) := dk_42 (dk_at dksX9_parts_2 19 rfl rfl)
theorem dX9_parts_67 : decode cX9_parts 67 = .ok (.getfield 48, 3) := dk_180 0 48 (dk_at dksX9_parts_2 20 rfl rfl)
theorem dX9_parts_70 : decode cX9_parts 70 = .ok (.ifCond .ne 29, 3) := dk_154 0 29 (dk_at dksX9_parts_3 0 rfl rfl)
theorem dX9_parts_73 : decode cX9_parts 73 = .ok (.aload_n 0, 1) := dk_42 (dk_at dksX9_parts_3 3 rfl rfl)
theorem dX9_parts_74 : decode cX9_parts 74 = .ok (.getfield 63, 3) := dk_180 0 63 (dk_at dksX9_parts_3 4 rfl rfl)
theorem dX9_parts_77 : decode cX9_parts 77 = .ok (.invokestatic 100, 3) := dk_184 0 100 (dk_at dksX9_parts_3 7 rfl rfl)
theorem dX9_parts_80 : decode cX9_parts 80 = .ok (.ifCond .eq 19, 3) := dk_153 0 19 (dk_at dksX9_parts_3 10 rfl rfl)
theorem dX9_parts_83 : decode cX9_parts 83 = .ok (.iload_n 1, 1) := dk_27 (dk_at dksX9_parts_3 13 rfl rfl)
theorem dX9_parts_84 : decode cX9_parts 84 = .ok (.ifCond .ne 28, 3) := dk_154 0 28 (dk_at dksX9_parts_3 14 rfl rfl)
theorem dX9_parts_87 : decode cX9_parts 87 = .ok (.aload_n 0, 1) := dk_42 (dk_at dksX9_parts_3 17 rfl rfl)
theorem dX9_parts_88 : decode cX9_parts 88 = .ok (.getfield 7, 3) := dk_180 0 7 (dk_at dksX9_parts_3 18 rfl rfl)
theorem dX9_parts_91 : decode cX9_parts 91 = .ok (.aload_n 0, 1) := dk_42 (dk_at dksX9_parts_3 21 rfl rfl)
theorem dX9_parts_92 : decode cX9_parts 92 = .ok (.getfield 29, 3) := dk_180 0 29 (dk_at dksX9_parts_4 0 rfl rfl)
theorem dX9_parts_95 : decode cX9_parts 95 = .ok (.invokestatic 56, 3) := dk_184 0 56 (dk_at dksX9_parts_4 3 rfl rfl)
theorem dX9_parts_98 : decode cX9_parts 98 = .ok (.athrow, 1) := dk_191 (dk_at dksX9_parts_4 6 rfl rfl)
theorem dX9_parts_99 : decode cX9_parts 99 = .ok (.aload_n 3, 1) := dk_45 (dk_at dksX9_parts_4 7 rfl rfl)
theorem dX9_parts_100 : decode cX9_parts 100 = .ok (.aload_n 0, 1) := dk_42 (dk_at dksX9_parts_4 8 rfl rfl)
theorem dX9_parts_101 : decode cX9_parts 101 = .ok (.iload_n 1, 1) := dk_27 (dk_at dksX9_parts_4 9 rfl rfl)
theorem dX9_parts_102 : decode cX9_parts 102 = .ok (.invokevirtual 104, 3) := dk_182 0 104 (dk_at dksX9_parts_4 10 rfl rfl)
theorem dX9_parts_105 : decode cX9_parts 105 = .ok (.invokevirtual 94, 3) := dk_182 0 94 (dk_at dksX9_parts_4 13 rfl rfl)
theorem dX9_parts_108 : decode cX9_parts 108 = .ok (.pop, 1) := dk_87 (dk_at dksX9_parts_4 16 rfl rfl)
theorem dX9_parts_109 : decode cX9_parts 109 = .ok (.goto (-101), 3) := dk_167 255 155 (dk_at dksX9_parts_4 17 rfl rfl)
theorem dX9_parts_112 : decode cX9_parts 112 = .ok (.aload_n 3, 1) := dk_45 (dk_at dksX9_parts_4 20 rfl rfl)
theorem dX9_parts_113 : decode cX9_parts 113 = .ok (.invokevirtual 108, 3) := dk_182 0 108 (dk_at dksX9_parts_4 21 rfl rfl)
theorem dX9_parts_116 : decode cX9_parts 116 = .ok (.anewarray 111, 3) := dk_189 0 111 (dk_at dksX9_parts_5 0 rfl rfl)
theorem dX9_parts_119 : decode cX9_parts 119 = .ok (.astore 4, 2) := dk_58 4 (dk_at dksX9_parts_5 3 rfl rfl)
theorem dX9_parts_121 : decode cX9_parts 121 = .ok (.iconst 0, 1) := dk_3 (dk_at dksX9_parts_5 5 rfl rfl)
theorem dX9_parts_122 : decode cX9_parts 122 = .ok (.istore 5, 2) := dk_54 5 (dk_at dksX9_parts_5 6 rfl rfl)
theorem dX9_parts_124 : decode cX9_parts 124 = .ok (.iload 5, 2) := dk_21 5 (dk_at dksX9_parts_5 8 rfl rfl)
theorem dX9_parts_126 : decode cX9_parts 126 = .ok (.aload 4, 2) := dk_25 4 (dk_at dksX9_parts_5 10 rfl rfl)
theorem dX9_parts_128 : decode cX9_parts 128 = .ok (.arraylength, 1) := dk_190 (dk_at dksX9_parts_5 12 rfl rfl)
theorem dX9_parts_129 : decode cX9_parts 129 = .ok (.if_icmp .ge 23, 3) := dk_162 0 23 (dk_at dksX9_parts_5 13 rfl rfl)
theorem dX9_parts_132 : decode cX9_parts 132 = .ok (.aload 4, 2) := dk_25 4 (dk_at dksX9_parts_5 16 rfl rfl)
theorem dX9_parts_134 : decode cX9_parts 134 = .ok (.iload 5, 2) := dk_21 5 (dk_at dksX9_parts_5 18 rfl rfl)
theorem dX9_parts_136 : decode cX9_parts 136 = .ok (.aload_n 3, 1) := dk_45 (dk_at dksX9_parts_5 20 rfl rfl)
theorem dX9_parts_137 : decode cX9_parts 137 = .ok (.iload 5, 2) := dk_21 5 (dk_at dksX9_parts_5 21 rfl rfl)
theorem dX9_parts_139 : decode cX9_parts 139 = .ok (.invokevirtual 113, 3) := dk_182 0 113 (dk_at dksX9_parts_6 0 rfl rfl)
theorem dX9_parts_142 : decode cX9_parts 142 = .ok (.checkcast 111, 3) := dk_192 0 111 (dk_at dksX9_parts_6 3 rfl rfl)
theorem dX9_parts_145 : decode cX9_parts 145 = .ok (.aastore, 1) := dk_83 (dk_at dksX9_parts_6 6 rfl rfl)
theorem dX9_parts_146 : decode cX9_parts 146 = .ok (.iinc 5 1, 3) := dk_132 5 1 (dk_at dksX9_parts_6 7 rfl rfl)
theorem dX9_parts_149 : decode cX9_parts 149 = .ok (.goto (-25), 3) := dk_167 255 231 (dk_at dksX9_parts_6 10 rfl rfl)
theorem dX9_parts_152 : decode cX9_parts 152 = .ok (.aload 4, 2) := dk_25 4 (dk_at dksX9_parts_6 13 rfl rfl)
theorem dX9_parts_154 : decode cX9_parts 154 = .ok (.areturn, 1) := dk_176 (dk_at dksX9_parts_6 15 rfl rfl)
abbrev cX9_toTag : ByteArray := prog_13_method_2_code
def yX9_toTag : MethodName := ⟨RX9, "toTag", "()Ljava/lang/String;"⟩
def dkwX9_toTag_6 : List UInt8 := [42, 180, 0, 48, 153, 0, 7, 6, 167, 0, 4, 5, 96, 181, 0, 19, 25, 4, 176]
abbrev dktX9_toTag_6 : List UInt8 := dkwX9_toTag_6 ++ []
def dkwX9_toTag_5 : List UInt8 := [180, 0, 19, 27, 182, 0, 60, 58, 4, 42, 42, 180, 0, 13, 28, 29, 182, 0, 60, 181, 0, 63, 42, 29]
abbrev dktX9_toTag_5 : List UInt8 := dkwX9_toTag_5 ++ dktX9_toTag_6
def dkwX9_toTag_4 : List UInt8 := [28, 182, 0, 23, 62, 29, 156, 0, 12, 42, 180, 0, 7, 27, 184, 0, 56, 191, 42, 180, 0, 13, 42]
abbrev dktX9_toTag_4 : List UInt8 := dkwX9_toTag_4 ++ dktX9_toTag_5
def dkwX9_toTag_3 : List UInt8 := [167, 0, 4, 5, 96, 61, 42, 180, 0, 13, 42, 180, 0, 48, 153, 0, 8, 18, 52, 167, 0, 5, 18, 54]
abbrev dktX9_toTag_3 : List UInt8 := dkwX9_toTag_3 ++ dktX9_toTag_4
def dkwX9_toTag_2 : List UInt8 := [42, 42, 180, 0, 13, 18, 40, 27, 184, 0, 42, 181, 0, 48, 27, 42, 180, 0, 48, 153, 0, 7, 6]
abbrev dktX9_toTag_2 : List UInt8 := dkwX9_toTag_2 ++ dktX9_toTag_3
def dkwX9_toTag_1 : List UInt8 := [180, 0, 13, 42, 180, 0, 19, 182, 0, 32, 77, 42, 42, 180, 0, 13, 182, 0, 36, 181, 0, 19, 44, 176]
abbrev dktX9_toTag_1 : List UInt8 := dkwX9_toTag_1 ++ dktX9_toTag_2
def dkwX9_toTag_0 : List UInt8 := [42, 180, 0, 13, 18, 17, 42, 180, 0, 19, 182, 0, 23, 60, 42, 27, 181, 0, 29, 27, 156, 0, 28, 42]
abbrev dktX9_toTag_0 : List UInt8 := dkwX9_toTag_0 ++ dktX9_toTag_1
theorem dksX9_toTag_0 : cX9_toTag.data.toList.drop 0 = dktX9_toTag_0 := by decide +kernel
theorem dksX9_toTag_1 : cX9_toTag.data.toList.drop 24 = dktX9_toTag_1 := dk_seg dksX9_toTag_0 24 rfl rfl
theorem dksX9_toTag_2 : cX9_toTag.data.toList.drop 48 = dktX9_toTag_2 := dk_seg dksX9_toTag_1 24 rfl rfl
theorem dksX9_toTag_3 : cX9_toTag.data.toList.drop 71 = dktX9_toTag_3 := dk_seg dksX9_toTag_2 23 rfl rfl
theorem dksX9_toTag_4 : cX9_toTag.data.toList.drop 95 = dktX9_toTag_4 := dk_seg dksX9_toTag_3 24 rfl rfl
theorem dksX9_toTag_5 : cX9_toTag.data.toList.drop 118 = dktX9_toTag_5 := dk_seg dksX9_toTag_4 23 rfl rfl
theorem dksX9_toTag_6 : cX9_toTag.data.toList.drop 142 = dktX9_toTag_6 := dk_seg dksX9_toTag_5 24 rfl rfl
theorem dX9_toTag_0 : decode cX9_toTag 0 = .ok (.aload_n 0, 1) := dk_42 (dk_at dksX9_toTag_0 0 rfl rfl)
theorem dX9_toTag_1 : decode cX9_toTag 1 = .ok (.getfield 13, 3) := dk_180 0 13 (dk_at dksX9_toTag_0 1 rfl rfl)
theorem dX9_toTag_4 : decode cX9_toTag 4 = .ok (.ldc 17, 2) := dk_18 17 (dk_at dksX9_toTag_0 4 rfl rfl)
theorem dX9_toTag_6 : decode cX9_toTag 6 = .ok (.aload_n 0, 1) := dk_42 (dk_at dksX9_toTag_0 6 rfl rfl)
theorem dX9_toTag_7 : decode cX9_toTag 7 = .ok (.getfield 19, 3) := dk_180 0 19 (dk_at dksX9_toTag_0 7 rfl rfl)
theorem dX9_toTag_10 : decode cX9_toTag 10 = .ok (.invokevirtual 23, 3) := dk_182 0 23 (dk_at dksX9_toTag_0 10 rfl rfl)
theorem dX9_toTag_13 : decode cX9_toTag 13 = .ok (.istore_n 1, 1) := dk_60 (dk_at dksX9_toTag_0 13 rfl rfl)
theorem dX9_toTag_14 : decode cX9_toTag 14 = .ok (.aload_n 0, 1) := dk_42 (dk_at dksX9_toTag_0 14 rfl rfl)
theorem dX9_toTag_15 : decode cX9_toTag 15 = .ok (.iload_n 1, 1) := dk_27 (dk_at dksX9_toTag_0 15 rfl rfl)
theorem dX9_toTag_16 : decode cX9_toTag 16 = .ok (.putfield 29, 3) := dk_181 0 29 (dk_at dksX9_toTag_0 16 rfl rfl)
theorem dX9_toTag_19 : decode cX9_toTag 19 = .ok (.iload_n 1, 1) := dk_27 (dk_at dksX9_toTag_0 19 rfl rfl)
theorem dX9_toTag_20 : decode cX9_toTag 20 = .ok (.ifCond .ge 28, 3) := dk_156 0 28 (dk_at dksX9_toTag_0 20 rfl rfl)
theorem dX9_toTag_23 : decode cX9_toTag 23 = .ok (.aload_n 0, 1) := dk_42 (dk_at dksX9_toTag_0 23 rfl rfl)
theorem dX9_toTag_24 : decode cX9_toTag 24 = .ok (.getfield 13, 3) := dk_180 0 13 (dk_at dksX9_toTag_1 0 rfl rfl)
theorem dX9_toTag_27 : decode cX9_toTag 27 = .ok (.aload_n 0, 1) := dk_42 (dk_at dksX9_toTag_1 3 rfl rfl)
theorem dX9_toTag_28 : decode cX9_toTag 28 = .ok (.getfield 19, 3) := dk_180 0 19 (dk_at dksX9_toTag_1 4 rfl rfl)
theorem dX9_toTag_31 : decode cX9_toTag 31 = .ok (.invokevirtual 32, 3) := dk_182 0 32 (dk_at dksX9_toTag_1 7 rfl rfl)
theorem dX9_toTag_34 : decode cX9_toTag 34 = .ok (.astore_n 2, 1) := dk_77 (dk_at dksX9_toTag_1 10 rfl rfl)
theorem dX9_toTag_35 : decode cX9_toTag 35 = .ok (.aload_n 0, 1) := dk_42 (dk_at dksX9_toTag_1 11 rfl rfl)
theorem dX9_toTag_36 : decode cX9_toTag 36 = .ok (.aload_n 0, 1) := dk_42 (dk_at dksX9_toTag_1 12 rfl rfl)
theorem dX9_toTag_37 : decode cX9_toTag 37 = .ok (.getfield 13, 3) := dk_180 0 13 (dk_at dksX9_toTag_1 13 rfl rfl)
theorem dX9_toTag_40 : decode cX9_toTag 40 = .ok (.invokevirtual 36, 3) := dk_182 0 36 (dk_at dksX9_toTag_1 16 rfl rfl)
theorem dX9_toTag_43 : decode cX9_toTag 43 = .ok (.putfield 19, 3) := dk_181 0 19 (dk_at dksX9_toTag_1 19 rfl rfl)
theorem dX9_toTag_46 : decode cX9_toTag 46 = .ok (.aload_n 2, 1) := dk_44 (dk_at dksX9_toTag_1 22 rfl rfl)
theorem dX9_toTag_47 : decode cX9_toTag 47 = .ok (.areturn, 1) := dk_176 (dk_at dksX9_toTag_1 23 rfl rfl)
theorem dX9_toTag_48 : decode cX9_toTag 48 = .ok (.aload_n 0, 1) := dk_42 (dk_at dksX9_toTag_2 0 rfl rfl)
theorem dX9_toTag_49 : decode cX9_toTag 49 = .ok (.aload_n 0, 1) := dk_42 (dk_at dksX9_toTag_2 1 rfl rfl)
theorem dX9_toTag_50 : decode cX9_toTag 50 = .ok (.getfield 13, 3) := dk_180 0 13 (dk_at dksX9_toTag_2 2 rfl rfl)
theorem dX9_toTag_53 : decode cX9_toTag 53 = .ok (.ldc 40, 2) := dk_18 40 (dk_at dksX9_toTag_2 5 rfl rfl)
theorem dX9_toTag_55 : decode cX9_toTag 55 = .ok (.iload_n 1, 1) := dk_27 (dk_at dksX9_toTag_2 7 rfl rfl)
theorem dX9_toTag_56 : decode cX9_toTag 56 = .ok (.invokestatic 42, 3) := dk_184 0 42 (dk_at dksX9_toTag_2 8 rfl rfl)
theorem dX9_toTag_59 : decode cX9_toTag 59 = .ok (.putfield 48, 3) := dk_181 0 48 (dk_at dksX9_toTag_2 11 rfl rfl)
theorem dX9_toTag_62 : decode cX9_toTag 62 = .ok (.iload_n 1, 1) := dk_27 (dk_at dksX9_toTag_2 14 rfl rfl)
theorem dX9_toTag_63 : decode cX9_toTag 63 = .ok (.aload_n 0, 1) := dk_42 (dk_at dksX9_toTag_2 15 rfl rfl)
theorem dX9_toTag_64 : decode cX9_toTag 64 = .ok (.getfield 48, 3) := dk_180 0 48 (dk_at dksX9_toTag_2 16 rfl rfl)
theorem dX9_toTag_67 : decode cX9_toTag 67 = .ok (.ifCond .eq 7, 3) := dk_153 0 7 (dk_at dksX9_toTag_2 19 rfl rfl)
theorem dX9_toTag_70 : decode cX9_toTag 70 = .ok (.iconst 3, 1) := dk_6 (dk_at dksX9_toTag_2 22 rfl rfl)
theorem dX9_toTag_71 : decode cX9_toTag 71 = .ok (.goto 4, 3) := dk_167 0 4 (dk_at dksX9_toTag_3 0 rfl rfl)
theorem dX9_toTag_74 : decode cX9_toTag 74 = .ok (.iconst 2, 1) := dk_5 (dk_at dksX9_toTag_3 3 rfl rfl)
theorem dX9_toTag_75 : decode cX9_toTag 75 = .ok (.iadd, 1) := dk_96 (dk_at dksX9_toTag_3 4 rfl rfl)
theorem dX9_toTag_76 : decode cX9_toTag 76 = .ok (.istore_n 2, 1) := dk_61 (dk_at dksX9_toTag_3 5 rfl rfl)
theorem dX9_toTag_77 : decode cX9_toTag 77 = .ok (.aload_n 0, 1) := dk_42 (dk_at dksX9_toTag_3 6 rfl rfl)
theorem dX9_toTag_78 : decode cX9_toTag 78 = .ok (.getfield 13, 3) := dk_180 0 13 (dk_at dksX9_toTag_3 7 rfl rfl)
theorem dX9_toTag_81 : decode cX9_toTag 81 = .ok (.aload_n 0, 1) := dk_42 (dk_at dksX9_toTag_3 10 rfl rfl)
theorem dX9_toTag_82 : decode cX9_toTag 82 = .ok (.getfield 48, 3) := dk_180 0 48 (dk_at dksX9_toTag_3 11 rfl rfl)
theorem dX9_toTag_85 : decode cX9_toTag 85 = .ok (.ifCond .eq 8, 3) := dk_153 0 8 (dk_at dksX9_toTag_3 14 rfl rfl)
theorem dX9_toTag_88 : decode cX9_toTag 88 = .ok (.ldc 52, 2) := dk_18 52 (dk_at dksX9_toTag_3 17 rfl rfl)
theorem dX9_toTag_90 : decode cX9_toTag 90 = .ok (.goto 5, 3) := dk_167 0 5 (dk_at dksX9_toTag_3 19 rfl rfl)
theorem dX9_toTag_93 : decode cX9_toTag 93 = .ok (.ldc 54, 2) := dk_18 54 (dk_at dksX9_toTag_3 22 rfl rfl)
theorem dX9_toTag_95 : decode cX9_toTag 95 = .ok (.iload_n 2, 1) := dk_28 (dk_at dksX9_toTag_4 0 rfl rfl)
theorem dX9_toTag_96 : decode cX9_toTag 96 = .ok (.invokevirtual 23, 3) := dk_182 0 23 (dk_at dksX9_toTag_4 1 rfl rfl)
theorem dX9_toTag_99 : decode cX9_toTag 99 = .ok (.istore_n 3, 1) := dk_62 (dk_at dksX9_toTag_4 4 rfl rfl)
theorem dX9_toTag_100 : decode cX9_toTag 100 = .ok (.iload_n 3, 1) := dk_29 (dk_at dksX9_toTag_4 5 rfl rfl)
theorem dX9_toTag_101 : decode cX9_toTag 101 = .ok (.ifCond .ge 12, 3) := dk_156 0 12 (dk_at dksX9_toTag_4 6 rfl rfl)
theorem dX9_toTag_104 : decode cX9_toTag 104 = .ok (.aload_n 0, 1) := dk_42 (dk_at dksX9_toTag_4 9 rfl rfl)
theorem dX9_toTag_105 : decode cX9_toTag 105 = .ok (.getfield 7, 3) := dk_180 0 7 (dk_at dksX9_toTag_4 10 rfl rfl)
theorem dX9_toTag_108 : decode cX9_toTag 108 = .ok (.iload_n 1, 1) := dk_27 (dk_at dksX9_toTag_4 13 rfl rfl)
theorem dX9_toTag_109 : decode cX9_toTag 109 = .ok (.invokestatic 56, 3) := dk_184 0 56 (dk_at dksX9_toTag_4 14 rfl rfl)
theorem dX9_toTag_112 : decode cX9_toTag 112 = .ok (.athrow, 1) := dk_191 (dk_at dksX9_toTag_4 17 rfl rfl)
theorem dX9_toTag_113 : decode cX9_toTag 113 = .ok (.aload_n 0, 1) := dk_42 (dk_at dksX9_toTag_4 18 rfl rfl)
theorem dX9_toTag_114 : decode cX9_toTag 114 = .ok (.getfield 13, 3) := dk_180 0 13 (dk_at dksX9_toTag_4 19 rfl rfl)
theorem dX9_toTag_117 : decode cX9_toTag 117 = .ok (.aload_n 0, 1) := dk_42 (dk_at dksX9_toTag_4 22 rfl rfl)
theorem dX9_toTag_118 : decode cX9_toTag 118 = .ok (.getfield 19, 3) := dk_180 0 19 (dk_at dksX9_toTag_5 0 rfl rfl)
theorem dX9_toTag_121 : decode cX9_toTag 121 = .ok (.iload_n 1, 1) := dk_27 (dk_at dksX9_toTag_5 3 rfl rfl)
theorem dX9_toTag_122 : decode cX9_toTag 122 = .ok (.invokevirtual 60, 3) := dk_182 0 60 (dk_at dksX9_toTag_5 4 rfl rfl)
theorem dX9_toTag_125 : decode cX9_toTag 125 = .ok (.astore 4, 2) := dk_58 4 (dk_at dksX9_toTag_5 7 rfl rfl)
theorem dX9_toTag_127 : decode cX9_toTag 127 = .ok (.aload_n 0, 1) := dk_42 (dk_at dksX9_toTag_5 9 rfl rfl)
theorem dX9_toTag_128 : decode cX9_toTag 128 = .ok (.aload_n 0, 1) := dk_42 (dk_at dksX9_toTag_5 10 rfl rfl)
theorem dX9_toTag_129 : decode cX9_toTag 129 = .ok (.getfield 13, 3) := dk_180 0 13 (dk_at dksX9_toTag_5 11 rfl rfl)
theorem dX9_toTag_132 : decode cX9_toTag 132 = .ok (.iload_n 2, 1) := dk_28 (dk_at dksX9_toTag_5 14 rfl rfl)
theorem dX9_toTag_133 : decode cX9_toTag 133 = .ok (.iload_n 3, 1) := dk_29 (dk_at dksX9_toTag_5 15 rfl rfl)
theorem dX9_toTag_134 : decode cX9_toTag 134 = .ok (.invokevirtual 60, 3) := dk_182 0 60 (dk_at dksX9_toTag_5 16 rfl rfl)
theorem dX9_toTag_137 : decode cX9_toTag 137 = .ok (.putfield 63, 3) := dk_181 0 63 (dk_at dksX9_toTag_5 19 rfl rfl)
theorem dX9_toTag_140 : decode cX9_toTag 140 = .ok (.aload_n 0, 1) := dk_42 (dk_at dksX9_toTag_5 22 rfl rfl)
theorem dX9_toTag_141 : decode cX9_toTag 141 = .ok (.iload_n 3, 1) := dk_29 (dk_at dksX9_toTag_5 23 rfl rfl)
theorem dX9_toTag_142 : decode cX9_toTag 142 = .ok (.aload_n 0, 1) := dk_42 (dk_at dksX9_toTag_6 0 rfl rfl)
theorem dX9_toTag_143 : decode cX9_toTag 143 = .ok (.getfield 48, 3) := dk_180 0 48 (dk_at dksX9_toTag_6 1 rfl rfl)
theorem dX9_toTag_146 : decode cX9_toTag 146 = .ok (.ifCond .eq 7, 3) := dk_153 0 7 (dk_at dksX9_toTag_6 4 rfl rfl)
theorem dX9_toTag_149 : decode cX9_toTag 149 = .ok (.iconst 3, 1) := dk_6 (dk_at dksX9_toTag_6 7 rfl rfl)
theorem dX9_toTag_150 : decode cX9_toTag 150 = .ok (.goto 4, 3) := dk_167 0 4 (dk_at dksX9_toTag_6 8 rfl rfl)
theorem dX9_toTag_153 : decode cX9_toTag 153 = .ok (.iconst 2, 1) := dk_5 (dk_at dksX9_toTag_6 11 rfl rfl)
theorem dX9_toTag_154 : decode cX9_toTag 154 = .ok (.iadd, 1) := dk_96 (dk_at dksX9_toTag_6 12 rfl rfl)
theorem dX9_toTag_155 : decode cX9_toTag 155 = .ok (.putfield 19, 3) := dk_181 0 19 (dk_at dksX9_toTag_6 13 rfl rfl)
theorem dX9_toTag_158 : decode cX9_toTag 158 = .ok (.aload 4, 2) := dk_25 4 (dk_at dksX9_toTag_6 16 rfl rfl)
theorem dX9_toTag_160 : decode cX9_toTag 160 = .ok (.areturn, 1) := dk_176 (dk_at dksX9_toTag_6 18 rfl rfl)
abbrev cX9_isEnd : ByteArray := prog_13_method_4_code
def yX9_isEnd : MethodName := ⟨RX9, "isEnd", "(Ljava/lang/String;)Z"⟩
def dkwX9_isEnd_1 : List UInt8 := [154, 0, 12, 42, 18, 76, 182, 0, 68, 153, 0, 7, 4, 167, 0, 4, 3, 172]
abbrev dktX9_isEnd_1 : List UInt8 := dkwX9_isEnd_1 ++ []
def dkwX9_isEnd_0 : List UInt8 := [42, 18, 66, 182, 0, 68, 154, 0, 30, 42, 18, 72, 182, 0, 68, 154, 0, 21, 42, 18, 74, 182, 0, 68]
abbrev dktX9_isEnd_0 : List UInt8 := dkwX9_isEnd_0 ++ dktX9_isEnd_1
theorem dksX9_isEnd_0 : cX9_isEnd.data.toList.drop 0 = dktX9_isEnd_0 := by decide +kernel
theorem dksX9_isEnd_1 : cX9_isEnd.data.toList.drop 24 = dktX9_isEnd_1 := dk_seg dksX9_isEnd_0 24 rfl rfl
theorem dX9_isEnd_0 : decode cX9_isEnd 0 = .ok (.aload_n 0, 1) := dk_42 (dk_at dksX9_isEnd_0 0 rfl rfl)
theorem dX9_isEnd_1 : decode cX9_isEnd 1 = .ok (.ldc 66, 2) := dk_18 66 (dk_at dksX9_isEnd_0 1 rfl rfl)
theorem dX9_isEnd_3 : decode cX9_isEnd 3 = .ok (.invokevirtual 68, 3) := dk_182 0 68 (dk_at dksX9_isEnd_0 3 rfl rfl)
theorem dX9_isEnd_6 : decode cX9_isEnd 6 = .ok (.ifCond .ne 30, 3) := dk_154 0 30 (dk_at dksX9_isEnd_0 6 rfl rfl)
theorem dX9_isEnd_9 : decode cX9_isEnd 9 = .ok (.aload_n 0, 1) := dk_42 (dk_at dksX9_isEnd_0 9 rfl rfl)
theorem dX9_isEnd_10 : decode cX9_isEnd 10 = .ok (.ldc 72, 2) := dk_18 72 (dk_at dksX9_isEnd_0 10 rfl rfl)
theorem dX9_isEnd_12 : decode cX9_isEnd 12 = .ok (.invokevirtual 68, 3) := dk_182 0 68 (dk_at dksX9_isEnd_0 12 rfl rfl)
theorem dX9_isEnd_15 : decode cX9_isEnd 15 = .ok (.ifCond .ne 21, 3) := dk_154 0 21 (dk_at dksX9_isEnd_0 15 rfl rfl)
theorem dX9_isEnd_18 : decode cX9_isEnd 18 = .ok (.aload_n 0, 1) := dk_42 (dk_at dksX9_isEnd_0 18 rfl rfl)
theorem dX9_isEnd_19 : decode cX9_isEnd 19 = .ok (.ldc 74, 2) := dk_18 74 (dk_at dksX9_isEnd_0 19 rfl rfl)
theorem dX9_isEnd_21 : decode cX9_isEnd 21 = .ok (.invokevirtual 68, 3) := dk_182 0 68 (dk_at dksX9_isEnd_0 21 rfl rfl)
theorem dX9_isEnd_24 : decode cX9_isEnd 24 = .ok (.ifCond .ne 12, 3) := dk_154 0 12 (dk_at dksX9_isEnd_1 0 rfl rfl)
theorem dX9_isEnd_27 : decode cX9_isEnd 27 = .ok (.aload_n 0, 1) := dk_42 (dk_at dksX9_isEnd_1 3 rfl rfl)
theorem dX9_isEnd_28 : decode cX9_isEnd 28 = .ok (.ldc 76, 2) := dk_18 76 (dk_at dksX9_isEnd_1 4 rfl rfl)
theorem dX9_isEnd_30 : decode cX9_isEnd 30 = .ok (.invokevirtual 68, 3) := dk_182 0 68 (dk_at dksX9_isEnd_1 6 rfl rfl)
theorem dX9_isEnd_33 : decode cX9_isEnd 33 = .ok (.ifCond .eq 7, 3) := dk_153 0 7 (dk_at dksX9_isEnd_1 9 rfl rfl)
theorem dX9_isEnd_36 : decode cX9_isEnd 36 = .ok (.iconst 1, 1) := dk_4 (dk_at dksX9_isEnd_1 12 rfl rfl)
theorem dX9_isEnd_37 : decode cX9_isEnd 37 = .ok (.goto 4, 3) := dk_167 0 4 (dk_at dksX9_isEnd_1 13 rfl rfl)
theorem dX9_isEnd_40 : decode cX9_isEnd 40 = .ok (.iconst 0, 1) := dk_3 (dk_at dksX9_isEnd_1 16 rfl rfl)
theorem dX9_isEnd_41 : decode cX9_isEnd 41 = .ok (.ireturn, 1) := dk_172 (dk_at dksX9_isEnd_1 17 rfl rfl)
abbrev cX9_part : ByteArray := prog_13_method_6_code
def yX9_part : MethodName := ⟨RX9, "part", "(I)LTemplateEngine$Part;"⟩
def dkwX9_part_9 : List UInt8 := [42, 42, 180, 0, 63, 184, 0, 119, 182, 0, 123, 3, 183, 0, 127, 176]
abbrev dktX9_part_9 : List UInt8 := dkwX9_part_9 ++ []
def dkwX9_part_8 : List UInt8 := [180, 0, 7, 42, 180, 0, 29, 184, 0, 56, 191, 187, 0, 157, 89, 28, 183, 0, 159, 176, 187, 0, 117, 89]
abbrev dktX9_part_8 : List UInt8 := dkwX9_part_8 ++ dktX9_part_9
def dkwX9_part_7 : List UInt8 := [5, 182, 0, 153, 16, 97, 100, 167, 0, 4, 2, 61, 28, 155, 0, 8, 28, 6, 164, 0, 15, 42]
abbrev dktX9_part_7 : List UInt8 := dkwX9_part_7 ++ dktX9_part_8
def dkwX9_part_6 : List UInt8 := [18, 151, 3, 184, 0, 42, 153, 0, 60, 42, 180, 0, 63, 182, 0, 36, 6, 160, 0, 17, 42, 180, 0, 63]
abbrev dktX9_part_6 : List UInt8 := dkwX9_part_6 ++ dktX9_part_7
def dkwX9_part_5 : List UInt8 := [153, 0, 20, 42, 18, 149, 42, 180, 0, 63, 16, 6, 182, 0, 32, 27, 182, 0, 139, 176, 42, 180, 0, 63]
abbrev dktX9_part_5 : List UInt8 := dkwX9_part_5 ++ dktX9_part_6
def dkwX9_part_4 : List UInt8 := [42, 180, 0, 63, 16, 6, 182, 0, 32, 27, 182, 0, 139, 176, 42, 180, 0, 63, 18, 147, 3, 184, 0, 42]
abbrev dktX9_part_4 : List UInt8 := dkwX9_part_4 ++ dktX9_part_5
def dkwX9_part_3 : List UInt8 := [182, 0, 32, 27, 182, 0, 139, 176, 42, 180, 0, 63, 18, 143, 3, 184, 0, 42, 153, 0, 20, 42, 18, 145]
abbrev dktX9_part_3 : List UInt8 := dkwX9_part_3 ++ dktX9_part_4
def dkwX9_part_2 : List UInt8 := [176, 42, 180, 0, 63, 18, 135, 3, 184, 0, 42, 153, 0, 19, 42, 18, 137, 42, 180, 0, 63, 7]
abbrev dktX9_part_2 : List UInt8 := dkwX9_part_2 ++ dktX9_part_3
def dkwX9_part_1 : List UInt8 := [183, 0, 127, 176, 42, 180, 0, 63, 18, 130, 3, 184, 0, 42, 153, 0, 11, 187, 0, 132, 89, 183, 0, 134]
abbrev dktX9_part_1 : List UInt8 := dkwX9_part_1 ++ dktX9_part_2
def dkwX9_part_0 : List UInt8 := [42, 180, 0, 48, 153, 0, 23, 187, 0, 117, 89, 42, 42, 180, 0, 63, 184, 0, 119, 182, 0, 123, 4]
abbrev dktX9_part_0 : List UInt8 := dkwX9_part_0 ++ dktX9_part_1
theorem dksX9_part_0 : cX9_part.data.toList.drop 0 = dktX9_part_0 := by decide +kernel
theorem dksX9_part_1 : cX9_part.data.toList.drop 23 = dktX9_part_1 := dk_seg dksX9_part_0 23 rfl rfl
theorem dksX9_part_2 : cX9_part.data.toList.drop 47 = dktX9_part_2 := dk_seg dksX9_part_1 24 rfl rfl
theorem dksX9_part_3 : cX9_part.data.toList.drop 69 = dktX9_part_3 := dk_seg dksX9_part_2 22 rfl rfl
theorem dksX9_part_4 : cX9_part.data.toList.drop 93 = dktX9_part_4 := dk_seg dksX9_part_3 24 rfl rfl
theorem dksX9_part_5 : cX9_part.data.toList.drop 117 = dktX9_part_5 := dk_seg dksX9_part_4 24 rfl rfl
theorem dksX9_part_6 : cX9_part.data.toList.drop 141 = dktX9_part_6 := dk_seg dksX9_part_5 24 rfl rfl
theorem dksX9_part_7 : cX9_part.data.toList.drop 165 = dktX9_part_7 := dk_seg dksX9_part_6 24 rfl rfl
theorem dksX9_part_8 : cX9_part.data.toList.drop 187 = dktX9_part_8 := dk_seg dksX9_part_7 22 rfl rfl
theorem dksX9_part_9 : cX9_part.data.toList.drop 211 = dktX9_part_9 := dk_seg dksX9_part_8 24 rfl rfl
theorem dX9_part_0 : decode cX9_part 0 = .ok (.aload_n 0, 1) := dk_42 (dk_at dksX9_part_0 0 rfl rfl)
theorem dX9_part_1 : decode cX9_part 1 = .ok (.getfield 48, 3) := dk_180 0 48 (dk_at dksX9_part_0 1 rfl rfl)
theorem dX9_part_4 : decode cX9_part 4 = .ok (.ifCond .eq 23, 3) := dk_153 0 23 (dk_at dksX9_part_0 4 rfl rfl)
theorem dX9_part_7 : decode cX9_part 7 = .ok (.new 117, 3) := dk_187 0 117 (dk_at dksX9_part_0 7 rfl rfl)
theorem dX9_part_10 : decode cX9_part 10 = .ok (.dup, 1) := dk_89 (dk_at dksX9_part_0 10 rfl rfl)
theorem dX9_part_11 : decode cX9_part 11 = .ok (.aload_n 0, 1) := dk_42 (dk_at dksX9_part_0 11 rfl rfl)
theorem dX9_part_12 : decode cX9_part 12 = .ok (.aload_n 0, 1) := dk_42 (dk_at dksX9_part_0 12 rfl rfl)
theorem dX9_part_13 : decode cX9_part 13 = .ok (.getfield 63, 3) := dk_180 0 63 (dk_at dksX9_part_0 13 rfl rfl)
theorem dX9_part_16 : decode cX9_part 16 = .ok (.invokestatic 119, 3) := dk_184 0 119 (dk_at dksX9_part_0 16 rfl rfl)
theorem dX9_part_19 : decode cX9_part 19 = .ok (.invokevirtual 123, 3) := dk_182 0 123 (dk_at dksX9_part_0 19 rfl rfl)
theorem dX9_part_22 : decode cX9_part 22 = .ok (.iconst 1, 1) := dk_4 (dk_at dksX9_part_0 22 rfl rfl)
theorem dX9_part_23 : decode cX9_part 23 = .ok (.invokespecial 127, 3) := dk_183 0 127 (dk_at dksX9_part_1 0 rfl rfl)
theorem dX9_part_26 : decode cX9_part 26 = .ok (.areturn, 1) := dk_176 (dk_at dksX9_part_1 3 rfl rfl)
theorem dX9_part_27 : decode cX9_part 27 = .ok (.aload_n 0, 1) := dk_42 (dk_at dksX9_part_1 4 rfl rfl)
theorem dX9_part_28 : decode cX9_part 28 = .ok (.getfield 63, 3) := dk_180 0 63 (dk_at dksX9_part_1 5 rfl rfl)
theorem dX9_part_31 : decode cX9_part 31 = .ok (.ldc 130, 2) := dk_18 130 (dk_at dksX9_part_1 8 rfl rfl)
theorem dX9_part_33 : decode cX9_part 33 = .ok (.iconst 0, 1) := dk_3 (dk_at dksX9_part_1 10 rfl rfl)
theorem dX9_part_34 : decode cX9_part 34 = .ok (.invokestatic 42, 3) := dk_184 0 42 (dk_at dksX9_part_1 11 rfl rfl)
theorem dX9_part_37 : decode cX9_part 37 = .ok (.ifCond .eq 11, 3) := dk_153 0 11 (dk_at dksX9_part_1 14 rfl rfl)
theorem dX9_part_40 : decode cX9_part 40 = .ok (.new 132, 3) := dk_187 0 132 (dk_at dksX9_part_1 17 rfl rfl)
theorem dX9_part_43 : decode cX9_part 43 = .ok (.dup, 1) := dk_89 (dk_at dksX9_part_1 20 rfl rfl)
theorem dX9_part_44 : decode cX9_part 44 = .ok (.invokespecial 134, 3) := dk_183 0 134 (dk_at dksX9_part_1 21 rfl rfl)
theorem dX9_part_47 : decode cX9_part 47 = .ok (.areturn, 1) := dk_176 (dk_at dksX9_part_2 0 rfl rfl)
theorem dX9_part_48 : decode cX9_part 48 = .ok (.aload_n 0, 1) := dk_42 (dk_at dksX9_part_2 1 rfl rfl)
theorem dX9_part_49 : decode cX9_part 49 = .ok (.getfield 63, 3) := dk_180 0 63 (dk_at dksX9_part_2 2 rfl rfl)
theorem dX9_part_52 : decode cX9_part 52 = .ok (.ldc 135, 2) := dk_18 135 (dk_at dksX9_part_2 5 rfl rfl)
theorem dX9_part_54 : decode cX9_part 54 = .ok (.iconst 0, 1) := dk_3 (dk_at dksX9_part_2 7 rfl rfl)
theorem dX9_part_55 : decode cX9_part 55 = .ok (.invokestatic 42, 3) := dk_184 0 42 (dk_at dksX9_part_2 8 rfl rfl)
theorem dX9_part_58 : decode cX9_part 58 = .ok (.ifCond .eq 19, 3) := dk_153 0 19 (dk_at dksX9_part_2 11 rfl rfl)
theorem dX9_part_61 : decode cX9_part 61 = .ok (.aload_n 0, 1) := dk_42 (dk_at dksX9_part_2 14 rfl rfl)
theorem dX9_part_62 : decode cX9_part 62 = .ok (.ldc 137, 2) := dk_18 137 (dk_at dksX9_part_2 15 rfl rfl)
theorem dX9_part_64 : decode cX9_part 64 = .ok (.aload_n 0, 1) := dk_42 (dk_at dksX9_part_2 17 rfl rfl)
theorem dX9_part_65 : decode cX9_part 65 = .ok (.getfield 63, 3) := dk_180 0 63 (dk_at dksX9_part_2 18 rfl rfl)
theorem dX9_part_68 : decode cX9_part 68 = .ok (.iconst 4, 1) := dk_7 (dk_at dksX9_part_2 21 rfl rfl)
theorem dX9_part_69 : decode cX9_part 69 = .ok (.invokevirtual 32, 3) := dk_182 0 32 (dk_at dksX9_part_3 0 rfl rfl)
theorem dX9_part_72 : decode cX9_part 72 = .ok (.iload_n 1, 1) := dk_27 (dk_at dksX9_part_3 3 rfl rfl)
theorem dX9_part_73 : decode cX9_part 73 = .ok (.invokevirtual 139, 3) := dk_182 0 139 (dk_at dksX9_part_3 4 rfl rfl)
theorem dX9_part_76 : decode cX9_part 76 = .ok (.areturn, 1) := dk_176 (dk_at dksX9_part_3 7 rfl rfl)
theorem dX9_part_77 : decode cX9_part 77 = .ok (.aload_n 0, 1) := dk_42 (dk_at dksX9_part_3 8 rfl rfl)
theorem dX9_part_78 : decode cX9_part 78 = .ok (.getfield 63, 3) := dk_180 0 63 (dk_at dksX9_part_3 9 rfl rfl)
theorem dX9_part_81 : decode cX9_part 81 = .ok (.ldc 143, 2) := dk_18 143 (dk_at dksX9_part_3 12 rfl rfl)
theorem dX9_part_83 : decode cX9_part 83 = .ok (.iconst 0, 1) := dk_3 (dk_at dksX9_part_3 14 rfl rfl)
theorem dX9_part_84 : decode cX9_part 84 = .ok (.invokestatic 42, 3) := dk_184 0 42 (dk_at dksX9_part_3 15 rfl rfl)
theorem dX9_part_87 : decode cX9_part 87 = .ok (.ifCond .eq 20, 3) := dk_153 0 20 (dk_at dksX9_part_3 18 rfl rfl)
theorem dX9_part_90 : decode cX9_part 90 = .ok (.aload_n 0, 1) := dk_42 (dk_at dksX9_part_3 21 rfl rfl)
theorem dX9_part_91 : decode cX9_part 91 = .ok (.ldc 145, 2) := dk_18 145 (dk_at dksX9_part_3 22 rfl rfl)
theorem dX9_part_93 : decode cX9_part 93 = .ok (.aload_n 0, 1) := dk_42 (dk_at dksX9_part_4 0 rfl rfl)
theorem dX9_part_94 : decode cX9_part 94 = .ok (.getfield 63, 3) := dk_180 0 63 (dk_at dksX9_part_4 1 rfl rfl)
theorem dX9_part_97 : decode cX9_part 97 = .ok (.bipush 6, 2) := dk_16 6 (dk_at dksX9_part_4 4 rfl rfl)
theorem dX9_part_99 : decode cX9_part 99 = .ok (.invokevirtual 32, 3) := dk_182 0 32 (dk_at dksX9_part_4 6 rfl rfl)
theorem dX9_part_102 : decode cX9_part 102 = .ok (.iload_n 1, 1) := dk_27 (dk_at dksX9_part_4 9 rfl rfl)
theorem dX9_part_103 : decode cX9_part 103 = .ok (.invokevirtual 139, 3) := dk_182 0 139 (dk_at dksX9_part_4 10 rfl rfl)
theorem dX9_part_106 : decode cX9_part 106 = .ok (.areturn, 1) := dk_176 (dk_at dksX9_part_4 13 rfl rfl)
theorem dX9_part_107 : decode cX9_part 107 = .ok (.aload_n 0, 1) := dk_42 (dk_at dksX9_part_4 14 rfl rfl)
theorem dX9_part_108 : decode cX9_part 108 = .ok (.getfield 63, 3) := dk_180 0 63 (dk_at dksX9_part_4 15 rfl rfl)
theorem dX9_part_111 : decode cX9_part 111 = .ok (.ldc 147, 2) := dk_18 147 (dk_at dksX9_part_4 18 rfl rfl)
theorem dX9_part_113 : decode cX9_part 113 = .ok (.iconst 0, 1) := dk_3 (dk_at dksX9_part_4 20 rfl rfl)
theorem dX9_part_114 : decode cX9_part 114 = .ok (.invokestatic 42, 3) := dk_184 0 42 (dk_at dksX9_part_4 21 rfl rfl)
theorem dX9_part_117 : decode cX9_part 117 = .ok (.ifCond .eq 20, 3) := dk_153 0 20 (dk_at dksX9_part_5 0 rfl rfl)
theorem dX9_part_120 : decode cX9_part 120 = .ok (.aload_n 0, 1) := dk_42 (dk_at dksX9_part_5 3 rfl rfl)
theorem dX9_part_121 : decode cX9_part 121 = .ok (.ldc 149, 2) := dk_18 149 (dk_at dksX9_part_5 4 rfl rfl)
theorem dX9_part_123 : decode cX9_part 123 = .ok (.aload_n 0, 1) := dk_42 (dk_at dksX9_part_5 6 rfl rfl)
theorem dX9_part_124 : decode cX9_part 124 = .ok (.getfield 63, 3) := dk_180 0 63 (dk_at dksX9_part_5 7 rfl rfl)
theorem dX9_part_127 : decode cX9_part 127 = .ok (.bipush 6, 2) := dk_16 6 (dk_at dksX9_part_5 10 rfl rfl)
theorem dX9_part_129 : decode cX9_part 129 = .ok (.invokevirtual 32, 3) := dk_182 0 32 (dk_at dksX9_part_5 12 rfl rfl)
theorem dX9_part_132 : decode cX9_part 132 = .ok (.iload_n 1, 1) := dk_27 (dk_at dksX9_part_5 15 rfl rfl)
theorem dX9_part_133 : decode cX9_part 133 = .ok (.invokevirtual 139, 3) := dk_182 0 139 (dk_at dksX9_part_5 16 rfl rfl)
theorem dX9_part_136 : decode cX9_part 136 = .ok (.areturn, 1) := dk_176 (dk_at dksX9_part_5 19 rfl rfl)
theorem dX9_part_137 : decode cX9_part 137 = .ok (.aload_n 0, 1) := dk_42 (dk_at dksX9_part_5 20 rfl rfl)
theorem dX9_part_138 : decode cX9_part 138 = .ok (.getfield 63, 3) := dk_180 0 63 (dk_at dksX9_part_5 21 rfl rfl)
theorem dX9_part_141 : decode cX9_part 141 = .ok (.ldc 151, 2) := dk_18 151 (dk_at dksX9_part_6 0 rfl rfl)
theorem dX9_part_143 : decode cX9_part 143 = .ok (.iconst 0, 1) := dk_3 (dk_at dksX9_part_6 2 rfl rfl)
theorem dX9_part_144 : decode cX9_part 144 = .ok (.invokestatic 42, 3) := dk_184 0 42 (dk_at dksX9_part_6 3 rfl rfl)
theorem dX9_part_147 : decode cX9_part 147 = .ok (.ifCond .eq 60, 3) := dk_153 0 60 (dk_at dksX9_part_6 6 rfl rfl)
theorem dX9_part_150 : decode cX9_part 150 = .ok (.aload_n 0, 1) := dk_42 (dk_at dksX9_part_6 9 rfl rfl)
theorem dX9_part_151 : decode cX9_part 151 = .ok (.getfield 63, 3) := dk_180 0 63 (dk_at dksX9_part_6 10 rfl rfl)
theorem dX9_part_154 : decode cX9_part 154 = .ok (.invokevirtual 36, 3) := dk_182 0 36 (dk_at dksX9_part_6 13 rfl rfl)
theorem dX9_part_157 : decode cX9_part 157 = .ok (.iconst 3, 1) := dk_6 (dk_at dksX9_part_6 16 rfl rfl)
theorem dX9_part_158 : decode cX9_part 158 = .ok (.if_icmp .ne 17, 3) := dk_160 0 17 (dk_at dksX9_part_6 17 rfl rfl)
theorem dX9_part_161 : decode cX9_part 161 = .ok (.aload_n 0, 1) := dk_42 (dk_at dksX9_part_6 20 rfl rfl)
theorem dX9_part_162 : decode cX9_part 162 = .ok (.getfield 63, 3) := dk_180 0 63 (dk_at dksX9_part_6 21 rfl rfl)
theorem dX9_part_165 : decode cX9_part 165 = .ok (.iconst 2, 1) := dk_5 (dk_at dksX9_part_7 0 rfl rfl)
theorem dX9_part_166 : decode cX9_part 166 = .ok (.invokevirtual 153, 3) := dk_182 0 153 (dk_at dksX9_part_7 1 rfl rfl)
theorem dX9_part_169 : decode cX9_part 169 = .ok (.bipush 97, 2) := dk_16 97 (dk_at dksX9_part_7 4 rfl rfl)
theorem dX9_part_171 : decode cX9_part 171 = .ok (.isub, 1) := dk_100 (dk_at dksX9_part_7 6 rfl rfl)
theorem dX9_part_172 : decode cX9_part 172 = .ok (.goto 4, 3) := dk_167 0 4 (dk_at dksX9_part_7 7 rfl rfl)
theorem dX9_part_175 : decode cX9_part 175 = .ok (.iconst (-1), 1) := dk_2 (dk_at dksX9_part_7 10 rfl rfl)
theorem dX9_part_176 : decode cX9_part 176 = .ok (.istore_n 2, 1) := dk_61 (dk_at dksX9_part_7 11 rfl rfl)
theorem dX9_part_177 : decode cX9_part 177 = .ok (.iload_n 2, 1) := dk_28 (dk_at dksX9_part_7 12 rfl rfl)
theorem dX9_part_178 : decode cX9_part 178 = .ok (.ifCond .lt 8, 3) := dk_155 0 8 (dk_at dksX9_part_7 13 rfl rfl)
theorem dX9_part_181 : decode cX9_part 181 = .ok (.iload_n 2, 1) := dk_28 (dk_at dksX9_part_7 16 rfl rfl)
theorem dX9_part_182 : decode cX9_part 182 = .ok (.iconst 3, 1) := dk_6 (dk_at dksX9_part_7 17 rfl rfl)
theorem dX9_part_183 : decode cX9_part 183 = .ok (.if_icmp .le 15, 3) := dk_164 0 15 (dk_at dksX9_part_7 18 rfl rfl)
theorem dX9_part_186 : decode cX9_part 186 = .ok (.aload_n 0, 1) := dk_42 (dk_at dksX9_part_7 21 rfl rfl)
theorem dX9_part_187 : decode cX9_part 187 = .ok (.getfield 7, 3) := dk_180 0 7 (dk_at dksX9_part_8 0 rfl rfl)
theorem dX9_part_190 : decode cX9_part 190 = .ok (.aload_n 0, 1) := dk_42 (dk_at dksX9_part_8 3 rfl rfl)
theorem dX9_part_191 : decode cX9_part 191 = .ok (.getfield 29, 3) := dk_180 0 29 (dk_at dksX9_part_8 4 rfl rfl)
theorem dX9_part_194 : decode cX9_part 194 = .ok (.invokestatic 56, 3) := dk_184 0 56 (dk_at dksX9_part_8 7 rfl rfl)
theorem dX9_part_197 : decode cX9_part 197 = .ok (.athrow, 1) := dk_191 (dk_at dksX9_part_8 10 rfl rfl)
theorem dX9_part_198 : decode cX9_part 198 = .ok (.new 157, 3) := dk_187 0 157 (dk_at dksX9_part_8 11 rfl rfl)
theorem dX9_part_201 : decode cX9_part 201 = .ok (.dup, 1) := dk_89 (dk_at dksX9_part_8 14 rfl rfl)
theorem dX9_part_202 : decode cX9_part 202 = .ok (.iload_n 2, 1) := dk_28 (dk_at dksX9_part_8 15 rfl rfl)
theorem dX9_part_203 : decode cX9_part 203 = .ok (.invokespecial 159, 3) := dk_183 0 159 (dk_at dksX9_part_8 16 rfl rfl)
theorem dX9_part_206 : decode cX9_part 206 = .ok (.areturn, 1) := dk_176 (dk_at dksX9_part_8 19 rfl rfl)
theorem dX9_part_207 : decode cX9_part 207 = .ok (.new 117, 3) := dk_187 0 117 (dk_at dksX9_part_8 20 rfl rfl)
theorem dX9_part_210 : decode cX9_part 210 = .ok (.dup, 1) := dk_89 (dk_at dksX9_part_8 23 rfl rfl)
theorem dX9_part_211 : decode cX9_part 211 = .ok (.aload_n 0, 1) := dk_42 (dk_at dksX9_part_9 0 rfl rfl)
theorem dX9_part_212 : decode cX9_part 212 = .ok (.aload_n 0, 1) := dk_42 (dk_at dksX9_part_9 1 rfl rfl)
theorem dX9_part_213 : decode cX9_part 213 = .ok (.getfield 63, 3) := dk_180 0 63 (dk_at dksX9_part_9 2 rfl rfl)
theorem dX9_part_216 : decode cX9_part 216 = .ok (.invokestatic 119, 3) := dk_184 0 119 (dk_at dksX9_part_9 5 rfl rfl)
theorem dX9_part_219 : decode cX9_part 219 = .ok (.invokevirtual 123, 3) := dk_182 0 123 (dk_at dksX9_part_9 8 rfl rfl)
theorem dX9_part_222 : decode cX9_part 222 = .ok (.iconst 0, 1) := dk_3 (dk_at dksX9_part_9 11 rfl rfl)
theorem dX9_part_223 : decode cX9_part 223 = .ok (.invokespecial 127, 3) := dk_183 0 127 (dk_at dksX9_part_9 12 rfl rfl)
theorem dX9_part_226 : decode cX9_part 226 = .ok (.areturn, 1) := dk_176 (dk_at dksX9_part_9 15 rfl rfl)
abbrev cX9_expression : ByteArray := prog_13_method_10_code
def yX9_expression : MethodName := ⟨RX9, "expression", "(Ljava/lang/String;)LTemplateEngine$Operand;"⟩
def dkwX9_expression_8 : List UInt8 := [183, 0, 212, 176]
abbrev dktX9_expression_8 : List UInt8 := dkwX9_expression_8 ++ []
def dkwX9_expression_7 : List UInt8 := [21, 6, 42, 182, 0, 36, 162, 0, 7, 1, 167, 0, 16, 187, 0, 210, 89, 25, 5, 25, 4, 25, 7]
abbrev dktX9_expression_7 : List UInt8 := dkwX9_expression_7 ++ dktX9_expression_8
def dkwX9_expression_6 : List UInt8 := [184, 0, 200, 54, 6, 42, 29, 4, 96, 21, 6, 182, 0, 60, 184, 0, 203, 58, 7, 25, 7, 198, 0, 12]
abbrev dktX9_expression_6 : List UInt8 := dkwX9_expression_6 ++ dktX9_expression_7
def dkwX9_expression_5 : List UInt8 := [182, 0, 36, 159, 0, 13, 42, 29, 182, 0, 153, 16, 32, 159, 0, 5, 1, 176, 42, 29, 4, 96]
abbrev dktX9_expression_5 : List UInt8 := dkwX9_expression_5 ++ dktX9_expression_6
def dkwX9_expression_4 : List UInt8 := [160, 0, 18, 187, 0, 210, 89, 25, 5, 25, 4, 1, 183, 0, 212, 167, 0, 4, 1, 176, 29, 42]
abbrev dktX9_expression_4 : List UInt8 := dkwX9_expression_4 ++ dktX9_expression_5
def dkwX9_expression_3 : List UInt8 := [199, 0, 5, 1, 176, 42, 3, 27, 182, 0, 60, 58, 5, 28, 4, 160, 0, 28, 29, 42, 182, 0, 36]
abbrev dktX9_expression_3 : List UInt8 := dkwX9_expression_3 ++ dktX9_expression_4
def dkwX9_expression_2 : List UInt8 := [27, 4, 96, 184, 0, 200, 62, 42, 27, 4, 96, 29, 182, 0, 60, 184, 0, 203, 58, 4, 25, 4]
abbrev dktX9_expression_2 : List UInt8 := dkwX9_expression_2 ++ dktX9_expression_3
def dkwX9_expression_1 : List UInt8 := [182, 0, 60, 184, 0, 206, 61, 28, 153, 0, 13, 42, 27, 182, 0, 153, 16, 32, 159, 0, 5, 1, 176, 42]
abbrev dktX9_expression_1 : List UInt8 := dkwX9_expression_1 ++ dktX9_expression_2
def dkwX9_expression_0 : List UInt8 := [42, 3, 184, 0, 200, 60, 27, 42, 182, 0, 36, 160, 0, 8, 42, 184, 0, 203, 176, 42, 3, 27]
abbrev dktX9_expression_0 : List UInt8 := dkwX9_expression_0 ++ dktX9_expression_1
theorem dksX9_expression_0 : cX9_expression.data.toList.drop 0 = dktX9_expression_0 := by decide +kernel
theorem dksX9_expression_1 : cX9_expression.data.toList.drop 22 = dktX9_expression_1 := dk_seg dksX9_expression_0 22 rfl rfl
theorem dksX9_expression_2 : cX9_expression.data.toList.drop 46 = dktX9_expression_2 := dk_seg dksX9_expression_1 24 rfl rfl
theorem dksX9_expression_3 : cX9_expression.data.toList.drop 68 = dktX9_expression_3 := dk_seg dksX9_expression_2 22 rfl rfl
theorem dksX9_expression_4 : cX9_expression.data.toList.drop 91 = dktX9_expression_4 := dk_seg dksX9_expression_3 23 rfl rfl
theorem dksX9_expression_5 : cX9_expression.data.toList.drop 113 = dktX9_expression_5 := dk_seg dksX9_expression_4 22 rfl rfl
theorem dksX9_expression_6 : cX9_expression.data.toList.drop 135 = dktX9_expression_6 := dk_seg dksX9_expression_5 22 rfl rfl
theorem dksX9_expression_7 : cX9_expression.data.toList.drop 159 = dktX9_expression_7 := dk_seg dksX9_expression_6 24 rfl rfl
theorem dksX9_expression_8 : cX9_expression.data.toList.drop 182 = dktX9_expression_8 := dk_seg dksX9_expression_7 23 rfl rfl
theorem dX9_expression_0 : decode cX9_expression 0 = .ok (.aload_n 0, 1) := dk_42 (dk_at dksX9_expression_0 0 rfl rfl)
theorem dX9_expression_1 : decode cX9_expression 1 = .ok (.iconst 0, 1) := dk_3 (dk_at dksX9_expression_0 1 rfl rfl)
theorem dX9_expression_2 : decode cX9_expression 2 = .ok (.invokestatic 200, 3) := dk_184 0 200 (dk_at dksX9_expression_0 2 rfl rfl)
theorem dX9_expression_5 : decode cX9_expression 5 = .ok (.istore_n 1, 1) := dk_60 (dk_at dksX9_expression_0 5 rfl rfl)
theorem dX9_expression_6 : decode cX9_expression 6 = .ok (.iload_n 1, 1) := dk_27 (dk_at dksX9_expression_0 6 rfl rfl)
theorem dX9_expression_7 : decode cX9_expression 7 = .ok (.aload_n 0, 1) := dk_42 (dk_at dksX9_expression_0 7 rfl rfl)
theorem dX9_expression_8 : decode cX9_expression 8 = .ok (.invokevirtual 36, 3) := dk_182 0 36 (dk_at dksX9_expression_0 8 rfl rfl)
theorem dX9_expression_11 : decode cX9_expression 11 = .ok (.if_icmp .ne 8, 3) := dk_160 0 8 (dk_at dksX9_expression_0 11 rfl rfl)
theorem dX9_expression_14 : decode cX9_expression 14 = .ok (.aload_n 0, 1) := dk_42 (dk_at dksX9_expression_0 14 rfl rfl)
theorem dX9_expression_15 : decode cX9_expression 15 = .ok (.invokestatic 203, 3) := dk_184 0 203 (dk_at dksX9_expression_0 15 rfl rfl)
theorem dX9_expression_18 : decode cX9_expression 18 = .ok (.areturn, 1) := dk_176 (dk_at dksX9_expression_0 18 rfl rfl)
theorem dX9_expression_19 : decode cX9_expression 19 = .ok (.aload_n 0, 1) := dk_42 (dk_at dksX9_expression_0 19 rfl rfl)
theorem dX9_expression_20 : decode cX9_expression 20 = .ok (.iconst 0, 1) := dk_3 (dk_at dksX9_expression_0 20 rfl rfl)
theorem dX9_expression_21 : decode cX9_expression 21 = .ok (.iload_n 1, 1) := dk_27 (dk_at dksX9_expression_0 21 rfl rfl)
theorem dX9_expression_22 : decode cX9_expression 22 = .ok (.invokevirtual 60, 3) := dk_182 0 60 (dk_at dksX9_expression_1 0 rfl rfl)
theorem dX9_expression_25 : decode cX9_expression 25 = .ok (.invokestatic 206, 3) := dk_184 0 206 (dk_at dksX9_expression_1 3 rfl rfl)
theorem dX9_expression_28 : decode cX9_expression 28 = .ok (.istore_n 2, 1) := dk_61 (dk_at dksX9_expression_1 6 rfl rfl)
theorem dX9_expression_29 : decode cX9_expression 29 = .ok (.iload_n 2, 1) := dk_28 (dk_at dksX9_expression_1 7 rfl rfl)
theorem dX9_expression_30 : decode cX9_expression 30 = .ok (.ifCond .eq 13, 3) := dk_153 0 13 (dk_at dksX9_expression_1 8 rfl rfl)
theorem dX9_expression_33 : decode cX9_expression 33 = .ok (.aload_n 0, 1) := dk_42 (dk_at dksX9_expression_1 11 rfl rfl)
theorem dX9_expression_34 : decode cX9_expression 34 = .ok (.iload_n 1, 1) := dk_27 (dk_at dksX9_expression_1 12 rfl rfl)
theorem dX9_expression_35 : decode cX9_expression 35 = .ok (.invokevirtual 153, 3) := dk_182 0 153 (dk_at dksX9_expression_1 13 rfl rfl)
theorem dX9_expression_38 : decode cX9_expression 38 = .ok (.bipush 32, 2) := dk_16 32 (dk_at dksX9_expression_1 16 rfl rfl)
theorem dX9_expression_40 : decode cX9_expression 40 = .ok (.if_icmp .eq 5, 3) := dk_159 0 5 (dk_at dksX9_expression_1 18 rfl rfl)
theorem dX9_expression_43 : decode cX9_expression 43 = .ok (.aconst_null, 1) := dk_1 (dk_at dksX9_expression_1 21 rfl rfl)
theorem dX9_expression_44 : decode cX9_expression 44 = .ok (.areturn, 1) := dk_176 (dk_at dksX9_expression_1 22 rfl rfl)
theorem dX9_expression_45 : decode cX9_expression 45 = .ok (.aload_n 0, 1) := dk_42 (dk_at dksX9_expression_1 23 rfl rfl)
theorem dX9_expression_46 : decode cX9_expression 46 = .ok (.iload_n 1, 1) := dk_27 (dk_at dksX9_expression_2 0 rfl rfl)
theorem dX9_expression_47 : decode cX9_expression 47 = .ok (.iconst 1, 1) := dk_4 (dk_at dksX9_expression_2 1 rfl rfl)
theorem dX9_expression_48 : decode cX9_expression 48 = .ok (.iadd, 1) := dk_96 (dk_at dksX9_expression_2 2 rfl rfl)
theorem dX9_expression_49 : decode cX9_expression 49 = .ok (.invokestatic 200, 3) := dk_184 0 200 (dk_at dksX9_expression_2 3 rfl rfl)
theorem dX9_expression_52 : decode cX9_expression 52 = .ok (.istore_n 3, 1) := dk_62 (dk_at dksX9_expression_2 6 rfl rfl)
theorem dX9_expression_53 : decode cX9_expression 53 = .ok (.aload_n 0, 1) := dk_42 (dk_at dksX9_expression_2 7 rfl rfl)
theorem dX9_expression_54 : decode cX9_expression 54 = .ok (.iload_n 1, 1) := dk_27 (dk_at dksX9_expression_2 8 rfl rfl)
theorem dX9_expression_55 : decode cX9_expression 55 = .ok (.iconst 1, 1) := dk_4 (dk_at dksX9_expression_2 9 rfl rfl)
theorem dX9_expression_56 : decode cX9_expression 56 = .ok (.iadd, 1) := dk_96 (dk_at dksX9_expression_2 10 rfl rfl)
theorem dX9_expression_57 : decode cX9_expression 57 = .ok (.iload_n 3, 1) := dk_29 (dk_at dksX9_expression_2 11 rfl rfl)
theorem dX9_expression_58 : decode cX9_expression 58 = .ok (.invokevirtual 60, 3) := dk_182 0 60 (dk_at dksX9_expression_2 12 rfl rfl)
theorem dX9_expression_61 : decode cX9_expression 61 = .ok (.invokestatic 203, 3) := dk_184 0 203 (dk_at dksX9_expression_2 15 rfl rfl)
theorem dX9_expression_64 : decode cX9_expression 64 = .ok (.astore 4, 2) := dk_58 4 (dk_at dksX9_expression_2 18 rfl rfl)
theorem dX9_expression_66 : decode cX9_expression 66 = .ok (.aload 4, 2) := dk_25 4 (dk_at dksX9_expression_2 20 rfl rfl)
theorem dX9_expression_68 : decode cX9_expression 68 = .ok (.ifnonnull 5, 3) := dk_199 0 5 (dk_at dksX9_expression_3 0 rfl rfl)
theorem dX9_expression_71 : decode cX9_expression 71 = .ok (.aconst_null, 1) := dk_1 (dk_at dksX9_expression_3 3 rfl rfl)
theorem dX9_expression_72 : decode cX9_expression 72 = .ok (.areturn, 1) := dk_176 (dk_at dksX9_expression_3 4 rfl rfl)
theorem dX9_expression_73 : decode cX9_expression 73 = .ok (.aload_n 0, 1) := dk_42 (dk_at dksX9_expression_3 5 rfl rfl)
theorem dX9_expression_74 : decode cX9_expression 74 = .ok (.iconst 0, 1) := dk_3 (dk_at dksX9_expression_3 6 rfl rfl)
theorem dX9_expression_75 : decode cX9_expression 75 = .ok (.iload_n 1, 1) := dk_27 (dk_at dksX9_expression_3 7 rfl rfl)
theorem dX9_expression_76 : decode cX9_expression 76 = .ok (.invokevirtual 60, 3) := dk_182 0 60 (dk_at dksX9_expression_3 8 rfl rfl)
theorem dX9_expression_79 : decode cX9_expression 79 = .ok (.astore 5, 2) := dk_58 5 (dk_at dksX9_expression_3 11 rfl rfl)
theorem dX9_expression_81 : decode cX9_expression 81 = .ok (.iload_n 2, 1) := dk_28 (dk_at dksX9_expression_3 13 rfl rfl)
theorem dX9_expression_82 : decode cX9_expression 82 = .ok (.iconst 1, 1) := dk_4 (dk_at dksX9_expression_3 14 rfl rfl)
theorem dX9_expression_83 : decode cX9_expression 83 = .ok (.if_icmp .ne 28, 3) := dk_160 0 28 (dk_at dksX9_expression_3 15 rfl rfl)
theorem dX9_expression_86 : decode cX9_expression 86 = .ok (.iload_n 3, 1) := dk_29 (dk_at dksX9_expression_3 18 rfl rfl)
theorem dX9_expression_87 : decode cX9_expression 87 = .ok (.aload_n 0, 1) := dk_42 (dk_at dksX9_expression_3 19 rfl rfl)
theorem dX9_expression_88 : decode cX9_expression 88 = .ok (.invokevirtual 36, 3) := dk_182 0 36 (dk_at dksX9_expression_3 20 rfl rfl)
theorem dX9_expression_91 : decode cX9_expression 91 = .ok (.if_icmp .ne 18, 3) := dk_160 0 18 (dk_at dksX9_expression_4 0 rfl rfl)
theorem dX9_expression_94 : decode cX9_expression 94 = .ok (.new 210, 3) := dk_187 0 210 (dk_at dksX9_expression_4 3 rfl rfl)
theorem dX9_expression_97 : decode cX9_expression 97 = .ok (.dup, 1) := dk_89 (dk_at dksX9_expression_4 6 rfl rfl)
theorem dX9_expression_98 : decode cX9_expression 98 = .ok (.aload 5, 2) := dk_25 5 (dk_at dksX9_expression_4 7 rfl rfl)
theorem dX9_expression_100 : decode cX9_expression 100 = .ok (.aload 4, 2) := dk_25 4 (dk_at dksX9_expression_4 9 rfl rfl)
theorem dX9_expression_102 : decode cX9_expression 102 = .ok (.aconst_null, 1) := dk_1 (dk_at dksX9_expression_4 11 rfl rfl)
theorem dX9_expression_103 : decode cX9_expression 103 = .ok (.invokespecial 212, 3) := dk_183 0 212 (dk_at dksX9_expression_4 12 rfl rfl)
theorem dX9_expression_106 : decode cX9_expression 106 = .ok (.goto 4, 3) := dk_167 0 4 (dk_at dksX9_expression_4 15 rfl rfl)
theorem dX9_expression_109 : decode cX9_expression 109 = .ok (.aconst_null, 1) := dk_1 (dk_at dksX9_expression_4 18 rfl rfl)
theorem dX9_expression_110 : decode cX9_expression 110 = .ok (.areturn, 1) := dk_176 (dk_at dksX9_expression_4 19 rfl rfl)
theorem dX9_expression_111 : decode cX9_expression 111 = .ok (.iload_n 3, 1) := dk_29 (dk_at dksX9_expression_4 20 rfl rfl)
theorem dX9_expression_112 : decode cX9_expression 112 = .ok (.aload_n 0, 1) := dk_42 (dk_at dksX9_expression_4 21 rfl rfl)
theorem dX9_expression_113 : decode cX9_expression 113 = .ok (.invokevirtual 36, 3) := dk_182 0 36 (dk_at dksX9_expression_5 0 rfl rfl)
theorem dX9_expression_116 : decode cX9_expression 116 = .ok (.if_icmp .eq 13, 3) := dk_159 0 13 (dk_at dksX9_expression_5 3 rfl rfl)
theorem dX9_expression_119 : decode cX9_expression 119 = .ok (.aload_n 0, 1) := dk_42 (dk_at dksX9_expression_5 6 rfl rfl)
theorem dX9_expression_120 : decode cX9_expression 120 = .ok (.iload_n 3, 1) := dk_29 (dk_at dksX9_expression_5 7 rfl rfl)
theorem dX9_expression_121 : decode cX9_expression 121 = .ok (.invokevirtual 153, 3) := dk_182 0 153 (dk_at dksX9_expression_5 8 rfl rfl)
theorem dX9_expression_124 : decode cX9_expression 124 = .ok (.bipush 32, 2) := dk_16 32 (dk_at dksX9_expression_5 11 rfl rfl)
theorem dX9_expression_126 : decode cX9_expression 126 = .ok (.if_icmp .eq 5, 3) := dk_159 0 5 (dk_at dksX9_expression_5 13 rfl rfl)
theorem dX9_expression_129 : decode cX9_expression 129 = .ok (.aconst_null, 1) := dk_1 (dk_at dksX9_expression_5 16 rfl rfl)
theorem dX9_expression_130 : decode cX9_expression 130 = .ok (.areturn, 1) := dk_176 (dk_at dksX9_expression_5 17 rfl rfl)
theorem dX9_expression_131 : decode cX9_expression 131 = .ok (.aload_n 0, 1) := dk_42 (dk_at dksX9_expression_5 18 rfl rfl)
theorem dX9_expression_132 : decode cX9_expression 132 = .ok (.iload_n 3, 1) := dk_29 (dk_at dksX9_expression_5 19 rfl rfl)
theorem dX9_expression_133 : decode cX9_expression 133 = .ok (.iconst 1, 1) := dk_4 (dk_at dksX9_expression_5 20 rfl rfl)
theorem dX9_expression_134 : decode cX9_expression 134 = .ok (.iadd, 1) := dk_96 (dk_at dksX9_expression_5 21 rfl rfl)
theorem dX9_expression_135 : decode cX9_expression 135 = .ok (.invokestatic 200, 3) := dk_184 0 200 (dk_at dksX9_expression_6 0 rfl rfl)
theorem dX9_expression_138 : decode cX9_expression 138 = .ok (.istore 6, 2) := dk_54 6 (dk_at dksX9_expression_6 3 rfl rfl)
theorem dX9_expression_140 : decode cX9_expression 140 = .ok (.aload_n 0, 1) := dk_42 (dk_at dksX9_expression_6 5 rfl rfl)
theorem dX9_expression_141 : decode cX9_expression 141 = .ok (.iload_n 3, 1) := dk_29 (dk_at dksX9_expression_6 6 rfl rfl)
theorem dX9_expression_142 : decode cX9_expression 142 = .ok (.iconst 1, 1) := dk_4 (dk_at dksX9_expression_6 7 rfl rfl)
theorem dX9_expression_143 : decode cX9_expression 143 = .ok (.iadd, 1) := dk_96 (dk_at dksX9_expression_6 8 rfl rfl)
theorem dX9_expression_144 : decode cX9_expression 144 = .ok (.iload 6, 2) := dk_21 6 (dk_at dksX9_expression_6 9 rfl rfl)
theorem dX9_expression_146 : decode cX9_expression 146 = .ok (.invokevirtual 60, 3) := dk_182 0 60 (dk_at dksX9_expression_6 11 rfl rfl)
theorem dX9_expression_149 : decode cX9_expression 149 = .ok (.invokestatic 203, 3) := dk_184 0 203 (dk_at dksX9_expression_6 14 rfl rfl)
theorem dX9_expression_152 : decode cX9_expression 152 = .ok (.astore 7, 2) := dk_58 7 (dk_at dksX9_expression_6 17 rfl rfl)
theorem dX9_expression_154 : decode cX9_expression 154 = .ok (.aload 7, 2) := dk_25 7 (dk_at dksX9_expression_6 19 rfl rfl)
theorem dX9_expression_156 : decode cX9_expression 156 = .ok (.ifnull 12, 3) := dk_198 0 12 (dk_at dksX9_expression_6 21 rfl rfl)
theorem dX9_expression_159 : decode cX9_expression 159 = .ok (.iload 6, 2) := dk_21 6 (dk_at dksX9_expression_7 0 rfl rfl)
theorem dX9_expression_161 : decode cX9_expression 161 = .ok (.aload_n 0, 1) := dk_42 (dk_at dksX9_expression_7 2 rfl rfl)
theorem dX9_expression_162 : decode cX9_expression 162 = .ok (.invokevirtual 36, 3) := dk_182 0 36 (dk_at dksX9_expression_7 3 rfl rfl)
theorem dX9_expression_165 : decode cX9_expression 165 = .ok (.if_icmp .ge 7, 3) := dk_162 0 7 (dk_at dksX9_expression_7 6 rfl rfl)
theorem dX9_expression_168 : decode cX9_expression 168 = .ok (.aconst_null, 1) := dk_1 (dk_at dksX9_expression_7 9 rfl rfl)
theorem dX9_expression_169 : decode cX9_expression 169 = .ok (.goto 16, 3) := dk_167 0 16 (dk_at dksX9_expression_7 10 rfl rfl)
theorem dX9_expression_172 : decode cX9_expression 172 = .ok (.new 210, 3) := dk_187 0 210 (dk_at dksX9_expression_7 13 rfl rfl)
theorem dX9_expression_175 : decode cX9_expression 175 = .ok (.dup, 1) := dk_89 (dk_at dksX9_expression_7 16 rfl rfl)
theorem dX9_expression_176 : decode cX9_expression 176 = .ok (.aload 5, 2) := dk_25 5 (dk_at dksX9_expression_7 17 rfl rfl)
theorem dX9_expression_178 : decode cX9_expression 178 = .ok (.aload 4, 2) := dk_25 4 (dk_at dksX9_expression_7 19 rfl rfl)
theorem dX9_expression_180 : decode cX9_expression 180 = .ok (.aload 7, 2) := dk_25 7 (dk_at dksX9_expression_7 21 rfl rfl)
theorem dX9_expression_182 : decode cX9_expression 182 = .ok (.invokespecial 212, 3) := dk_183 0 212 (dk_at dksX9_expression_8 0 rfl rfl)
theorem dX9_expression_185 : decode cX9_expression 185 = .ok (.areturn, 1) := dk_176 (dk_at dksX9_expression_8 3 rfl rfl)
abbrev cX9_operandEnd : ByteArray := prog_13_method_8_code
def yX9_operandEnd : MethodName := ⟨RX9, "operandEnd", "(Ljava/lang/String;I)I"⟩
def dkwX9_operandEnd_2 : List UInt8 := [182, 0, 23, 61, 28, 156, 0, 10, 42, 182, 0, 36, 167, 0, 4, 28, 172]
abbrev dktX9_operandEnd_2 : List UInt8 := dkwX9_operandEnd_2 ++ []
def dkwX9_operandEnd_1 : List UInt8 := [182, 0, 23, 61, 28, 156, 0, 10, 42, 182, 0, 36, 167, 0, 6, 28, 4, 96, 172, 42, 18, 185, 27]
abbrev dktX9_operandEnd_1 : List UInt8 := dkwX9_operandEnd_1 ++ dktX9_operandEnd_2
def dkwX9_operandEnd_0 : List UInt8 := [27, 42, 182, 0, 36, 162, 0, 38, 42, 27, 182, 0, 153, 16, 34, 160, 0, 28, 42, 18, 183, 27, 4, 96]
abbrev dktX9_operandEnd_0 : List UInt8 := dkwX9_operandEnd_0 ++ dktX9_operandEnd_1
theorem dksX9_operandEnd_0 : cX9_operandEnd.data.toList.drop 0 = dktX9_operandEnd_0 := by decide +kernel
theorem dksX9_operandEnd_1 : cX9_operandEnd.data.toList.drop 24 = dktX9_operandEnd_1 := dk_seg dksX9_operandEnd_0 24 rfl rfl
theorem dksX9_operandEnd_2 : cX9_operandEnd.data.toList.drop 47 = dktX9_operandEnd_2 := dk_seg dksX9_operandEnd_1 23 rfl rfl
theorem dX9_operandEnd_0 : decode cX9_operandEnd 0 = .ok (.iload_n 1, 1) := dk_27 (dk_at dksX9_operandEnd_0 0 rfl rfl)
theorem dX9_operandEnd_1 : decode cX9_operandEnd 1 = .ok (.aload_n 0, 1) := dk_42 (dk_at dksX9_operandEnd_0 1 rfl rfl)
theorem dX9_operandEnd_2 : decode cX9_operandEnd 2 = .ok (.invokevirtual 36, 3) := dk_182 0 36 (dk_at dksX9_operandEnd_0 2 rfl rfl)
theorem dX9_operandEnd_5 : decode cX9_operandEnd 5 = .ok (.if_icmp .ge 38, 3) := dk_162 0 38 (dk_at dksX9_operandEnd_0 5 rfl rfl)
theorem dX9_operandEnd_8 : decode cX9_operandEnd 8 = .ok (.aload_n 0, 1) := dk_42 (dk_at dksX9_operandEnd_0 8 rfl rfl)
theorem dX9_operandEnd_9 : decode cX9_operandEnd 9 = .ok (.iload_n 1, 1) := dk_27 (dk_at dksX9_operandEnd_0 9 rfl rfl)
theorem dX9_operandEnd_10 : decode cX9_operandEnd 10 = .ok (.invokevirtual 153, 3) := dk_182 0 153 (dk_at dksX9_operandEnd_0 10 rfl rfl)
theorem dX9_operandEnd_13 : decode cX9_operandEnd 13 = .ok (.bipush 34, 2) := dk_16 34 (dk_at dksX9_operandEnd_0 13 rfl rfl)
theorem dX9_operandEnd_15 : decode cX9_operandEnd 15 = .ok (.if_icmp .ne 28, 3) := dk_160 0 28 (dk_at dksX9_operandEnd_0 15 rfl rfl)
theorem dX9_operandEnd_18 : decode cX9_operandEnd 18 = .ok (.aload_n 0, 1) := dk_42 (dk_at dksX9_operandEnd_0 18 rfl rfl)
theorem dX9_operandEnd_19 : decode cX9_operandEnd 19 = .ok (.ldc 183, 2) := dk_18 183 (dk_at dksX9_operandEnd_0 19 rfl rfl)
theorem dX9_operandEnd_21 : decode cX9_operandEnd 21 = .ok (.iload_n 1, 1) := dk_27 (dk_at dksX9_operandEnd_0 21 rfl rfl)
theorem dX9_operandEnd_22 : decode cX9_operandEnd 22 = .ok (.iconst 1, 1) := dk_4 (dk_at dksX9_operandEnd_0 22 rfl rfl)
theorem dX9_operandEnd_23 : decode cX9_operandEnd 23 = .ok (.iadd, 1) := dk_96 (dk_at dksX9_operandEnd_0 23 rfl rfl)
theorem dX9_operandEnd_24 : decode cX9_operandEnd 24 = .ok (.invokevirtual 23, 3) := dk_182 0 23 (dk_at dksX9_operandEnd_1 0 rfl rfl)
theorem dX9_operandEnd_27 : decode cX9_operandEnd 27 = .ok (.istore_n 2, 1) := dk_61 (dk_at dksX9_operandEnd_1 3 rfl rfl)
theorem dX9_operandEnd_28 : decode cX9_operandEnd 28 = .ok (.iload_n 2, 1) := dk_28 (dk_at dksX9_operandEnd_1 4 rfl rfl)
theorem dX9_operandEnd_29 : decode cX9_operandEnd 29 = .ok (.ifCond .ge 10, 3) := dk_156 0 10 (dk_at dksX9_operandEnd_1 5 rfl rfl)
theorem dX9_operandEnd_32 : decode cX9_operandEnd 32 = .ok (.aload_n 0, 1) := dk_42 (dk_at dksX9_operandEnd_1 8 rfl rfl)
theorem dX9_operandEnd_33 : decode cX9_operandEnd 33 = .ok (.invokevirtual 36, 3) := dk_182 0 36 (dk_at dksX9_operandEnd_1 9 rfl rfl)
theorem dX9_operandEnd_36 : decode cX9_operandEnd 36 = .ok (.goto 6, 3) := dk_167 0 6 (dk_at dksX9_operandEnd_1 12 rfl rfl)
theorem dX9_operandEnd_39 : decode cX9_operandEnd 39 = .ok (.iload_n 2, 1) := dk_28 (dk_at dksX9_operandEnd_1 15 rfl rfl)
theorem dX9_operandEnd_40 : decode cX9_operandEnd 40 = .ok (.iconst 1, 1) := dk_4 (dk_at dksX9_operandEnd_1 16 rfl rfl)
theorem dX9_operandEnd_41 : decode cX9_operandEnd 41 = .ok (.iadd, 1) := dk_96 (dk_at dksX9_operandEnd_1 17 rfl rfl)
theorem dX9_operandEnd_42 : decode cX9_operandEnd 42 = .ok (.ireturn, 1) := dk_172 (dk_at dksX9_operandEnd_1 18 rfl rfl)
theorem dX9_operandEnd_43 : decode cX9_operandEnd 43 = .ok (.aload_n 0, 1) := dk_42 (dk_at dksX9_operandEnd_1 19 rfl rfl)
theorem dX9_operandEnd_44 : decode cX9_operandEnd 44 = .ok (.ldc 185, 2) := dk_18 185 (dk_at dksX9_operandEnd_1 20 rfl rfl)
theorem dX9_operandEnd_46 : decode cX9_operandEnd 46 = .ok (.iload_n 1, 1) := dk_27 (dk_at dksX9_operandEnd_1 22 rfl rfl)
theorem dX9_operandEnd_47 : decode cX9_operandEnd 47 = .ok (.invokevirtual 23, 3) := dk_182 0 23 (dk_at dksX9_operandEnd_2 0 rfl rfl)
theorem dX9_operandEnd_50 : decode cX9_operandEnd 50 = .ok (.istore_n 2, 1) := dk_61 (dk_at dksX9_operandEnd_2 3 rfl rfl)
theorem dX9_operandEnd_51 : decode cX9_operandEnd 51 = .ok (.iload_n 2, 1) := dk_28 (dk_at dksX9_operandEnd_2 4 rfl rfl)
theorem dX9_operandEnd_52 : decode cX9_operandEnd 52 = .ok (.ifCond .ge 10, 3) := dk_156 0 10 (dk_at dksX9_operandEnd_2 5 rfl rfl)
theorem dX9_operandEnd_55 : decode cX9_operandEnd 55 = .ok (.aload_n 0, 1) := dk_42 (dk_at dksX9_operandEnd_2 8 rfl rfl)
theorem dX9_operandEnd_56 : decode cX9_operandEnd 56 = .ok (.invokevirtual 36, 3) := dk_182 0 36 (dk_at dksX9_operandEnd_2 9 rfl rfl)
theorem dX9_operandEnd_59 : decode cX9_operandEnd 59 = .ok (.goto 4, 3) := dk_167 0 4 (dk_at dksX9_operandEnd_2 12 rfl rfl)
theorem dX9_operandEnd_62 : decode cX9_operandEnd 62 = .ok (.iload_n 2, 1) := dk_28 (dk_at dksX9_operandEnd_2 15 rfl rfl)
theorem dX9_operandEnd_63 : decode cX9_operandEnd 63 = .ok (.ireturn, 1) := dk_172 (dk_at dksX9_operandEnd_2 16 rfl rfl)
abbrev cX9_operand : ByteArray := prog_13_method_11_code
def yX9_operand : MethodName := ⟨RX9, "operand", "(Ljava/lang/String;)LTemplateEngine$Operand;"⟩
def dkwX9_operand_3 : List UInt8 := [182, 0, 153, 16, 57, 163, 0, 8, 42, 184, 0, 227, 176, 42, 184, 0, 230, 176]
abbrev dktX9_operand_3 : List UInt8 := dkwX9_operand_3 ++ []
def dkwX9_operand_2 : List UInt8 := [184, 0, 224, 176, 42, 182, 0, 85, 154, 0, 28, 42, 3, 182, 0, 153, 16, 48, 161, 0, 18, 42, 3]
abbrev dktX9_operand_2 : List UInt8 := dkwX9_operand_2 ++ dktX9_operand_3
def dkwX9_operand_1 : List UInt8 := [153, 0, 12, 187, 0, 217, 89, 4, 183, 0, 219, 176, 42, 18, 183, 3, 184, 0, 42, 153, 0, 8, 42]
abbrev dktX9_operand_1 : List UInt8 := dkwX9_operand_1 ++ dktX9_operand_2
def dkwX9_operand_0 : List UInt8 := [42, 18, 215, 182, 0, 68, 153, 0, 12, 187, 0, 217, 89, 3, 183, 0, 219, 176, 42, 18, 222, 182, 0, 68]
abbrev dktX9_operand_0 : List UInt8 := dkwX9_operand_0 ++ dktX9_operand_1
theorem dksX9_operand_0 : cX9_operand.data.toList.drop 0 = dktX9_operand_0 := by decide +kernel
theorem dksX9_operand_1 : cX9_operand.data.toList.drop 24 = dktX9_operand_1 := dk_seg dksX9_operand_0 24 rfl rfl
theorem dksX9_operand_2 : cX9_operand.data.toList.drop 47 = dktX9_operand_2 := dk_seg dksX9_operand_1 23 rfl rfl
theorem dksX9_operand_3 : cX9_operand.data.toList.drop 70 = dktX9_operand_3 := dk_seg dksX9_operand_2 23 rfl rfl
theorem dX9_operand_0 : decode cX9_operand 0 = .ok (.aload_n 0, 1) := dk_42 (dk_at dksX9_operand_0 0 rfl rfl)
theorem dX9_operand_1 : decode cX9_operand 1 = .ok (.ldc 215, 2) := dk_18 215 (dk_at dksX9_operand_0 1 rfl rfl)
theorem dX9_operand_3 : decode cX9_operand 3 = .ok (.invokevirtual 68, 3) := dk_182 0 68 (dk_at dksX9_operand_0 3 rfl rfl)
theorem dX9_operand_6 : decode cX9_operand 6 = .ok (.ifCond .eq 12, 3) := dk_153 0 12 (dk_at dksX9_operand_0 6 rfl rfl)
theorem dX9_operand_9 : decode cX9_operand 9 = .ok (.new 217, 3) := dk_187 0 217 (dk_at dksX9_operand_0 9 rfl rfl)
theorem dX9_operand_12 : decode cX9_operand 12 = .ok (.dup, 1) := dk_89 (dk_at dksX9_operand_0 12 rfl rfl)
theorem dX9_operand_13 : decode cX9_operand 13 = .ok (.iconst 0, 1) := dk_3 (dk_at dksX9_operand_0 13 rfl rfl)
theorem dX9_operand_14 : decode cX9_operand 14 = .ok (.invokespecial 219, 3) := dk_183 0 219 (dk_at dksX9_operand_0 14 rfl rfl)
theorem dX9_operand_17 : decode cX9_operand 17 = .ok (.areturn, 1) := dk_176 (dk_at dksX9_operand_0 17 rfl rfl)
theorem dX9_operand_18 : decode cX9_operand 18 = .ok (.aload_n 0, 1) := dk_42 (dk_at dksX9_operand_0 18 rfl rfl)
theorem dX9_operand_19 : decode cX9_operand 19 = .ok (.ldc 222, 2) := dk_18 222 (dk_at dksX9_operand_0 19 rfl rfl)
theorem dX9_operand_21 : decode cX9_operand 21 = .ok (.invokevirtual 68, 3) := dk_182 0 68 (dk_at dksX9_operand_0 21 rfl rfl)
theorem dX9_operand_24 : decode cX9_operand 24 = .ok (.ifCond .eq 12, 3) := dk_153 0 12 (dk_at dksX9_operand_1 0 rfl rfl)
theorem dX9_operand_27 : decode cX9_operand 27 = .ok (.new 217, 3) := dk_187 0 217 (dk_at dksX9_operand_1 3 rfl rfl)
theorem dX9_operand_30 : decode cX9_operand 30 = .ok (.dup, 1) := dk_89 (dk_at dksX9_operand_1 6 rfl rfl)
theorem dX9_operand_31 : decode cX9_operand 31 = .ok (.iconst 1, 1) := dk_4 (dk_at dksX9_operand_1 7 rfl rfl)
theorem dX9_operand_32 : decode cX9_operand 32 = .ok (.invokespecial 219, 3) := dk_183 0 219 (dk_at dksX9_operand_1 8 rfl rfl)
theorem dX9_operand_35 : decode cX9_operand 35 = .ok (.areturn, 1) := dk_176 (dk_at dksX9_operand_1 11 rfl rfl)
theorem dX9_operand_36 : decode cX9_operand 36 = .ok (.aload_n 0, 1) := dk_42 (dk_at dksX9_operand_1 12 rfl rfl)
theorem dX9_operand_37 : decode cX9_operand 37 = .ok (.ldc 183, 2) := dk_18 183 (dk_at dksX9_operand_1 13 rfl rfl)
theorem dX9_operand_39 : decode cX9_operand 39 = .ok (.iconst 0, 1) := dk_3 (dk_at dksX9_operand_1 15 rfl rfl)
theorem dX9_operand_40 : decode cX9_operand 40 = .ok (.invokestatic 42, 3) := dk_184 0 42 (dk_at dksX9_operand_1 16 rfl rfl)
theorem dX9_operand_43 : decode cX9_operand 43 = .ok (.ifCond .eq 8, 3) := dk_153 0 8 (dk_at dksX9_operand_1 19 rfl rfl)
theorem dX9_operand_46 : decode cX9_operand 46 = .ok (.aload_n 0, 1) := dk_42 (dk_at dksX9_operand_1 22 rfl rfl)
theorem dX9_operand_47 : decode cX9_operand 47 = .ok (.invokestatic 224, 3) := dk_184 0 224 (dk_at dksX9_operand_2 0 rfl rfl)
theorem dX9_operand_50 : decode cX9_operand 50 = .ok (.areturn, 1) := dk_176 (dk_at dksX9_operand_2 3 rfl rfl)
theorem dX9_operand_51 : decode cX9_operand 51 = .ok (.aload_n 0, 1) := dk_42 (dk_at dksX9_operand_2 4 rfl rfl)
theorem dX9_operand_52 : decode cX9_operand 52 = .ok (.invokevirtual 85, 3) := dk_182 0 85 (dk_at dksX9_operand_2 5 rfl rfl)
theorem dX9_operand_55 : decode cX9_operand 55 = .ok (.ifCond .ne 28, 3) := dk_154 0 28 (dk_at dksX9_operand_2 8 rfl rfl)
theorem dX9_operand_58 : decode cX9_operand 58 = .ok (.aload_n 0, 1) := dk_42 (dk_at dksX9_operand_2 11 rfl rfl)
theorem dX9_operand_59 : decode cX9_operand 59 = .ok (.iconst 0, 1) := dk_3 (dk_at dksX9_operand_2 12 rfl rfl)
theorem dX9_operand_60 : decode cX9_operand 60 = .ok (.invokevirtual 153, 3) := dk_182 0 153 (dk_at dksX9_operand_2 13 rfl rfl)
theorem dX9_operand_63 : decode cX9_operand 63 = .ok (.bipush 48, 2) := dk_16 48 (dk_at dksX9_operand_2 16 rfl rfl)
theorem dX9_operand_65 : decode cX9_operand 65 = .ok (.if_icmp .lt 18, 3) := dk_161 0 18 (dk_at dksX9_operand_2 18 rfl rfl)
theorem dX9_operand_68 : decode cX9_operand 68 = .ok (.aload_n 0, 1) := dk_42 (dk_at dksX9_operand_2 21 rfl rfl)
theorem dX9_operand_69 : decode cX9_operand 69 = .ok (.iconst 0, 1) := dk_3 (dk_at dksX9_operand_2 22 rfl rfl)
theorem dX9_operand_70 : decode cX9_operand 70 = .ok (.invokevirtual 153, 3) := dk_182 0 153 (dk_at dksX9_operand_3 0 rfl rfl)
theorem dX9_operand_73 : decode cX9_operand 73 = .ok (.bipush 57, 2) := dk_16 57 (dk_at dksX9_operand_3 3 rfl rfl)
theorem dX9_operand_75 : decode cX9_operand 75 = .ok (.if_icmp .gt 8, 3) := dk_163 0 8 (dk_at dksX9_operand_3 5 rfl rfl)
theorem dX9_operand_78 : decode cX9_operand 78 = .ok (.aload_n 0, 1) := dk_42 (dk_at dksX9_operand_3 8 rfl rfl)
theorem dX9_operand_79 : decode cX9_operand 79 = .ok (.invokestatic 227, 3) := dk_184 0 227 (dk_at dksX9_operand_3 9 rfl rfl)
theorem dX9_operand_82 : decode cX9_operand 82 = .ok (.areturn, 1) := dk_176 (dk_at dksX9_operand_3 12 rfl rfl)
theorem dX9_operand_83 : decode cX9_operand 83 = .ok (.aload_n 0, 1) := dk_42 (dk_at dksX9_operand_3 13 rfl rfl)
theorem dX9_operand_84 : decode cX9_operand 84 = .ok (.invokestatic 230, 3) := dk_184 0 230 (dk_at dksX9_operand_3 14 rfl rfl)
theorem dX9_operand_87 : decode cX9_operand 87 = .ok (.areturn, 1) := dk_176 (dk_at dksX9_operand_3 17 rfl rfl)
abbrev cX9_quoted : ByteArray := prog_13_method_12_code
def yX9_quoted : MethodName := ⟨RX9, "quoted", "(Ljava/lang/String;)LTemplateEngine$Operand;"⟩
def dkwX9_quoted_2 : List UInt8 := [182, 0, 60, 183, 0, 241, 183, 0, 242, 176]
abbrev dktX9_quoted_2 : List UInt8 := dkwX9_quoted_2 ++ []
def dkwX9_quoted_1 : List UInt8 := [18, 233, 182, 0, 235, 155, 0, 5, 1, 176, 187, 0, 237, 89, 187, 0, 239, 89, 42, 4, 27, 4, 100]
abbrev dktX9_quoted_1 : List UInt8 := dkwX9_quoted_1 ++ dktX9_quoted_2
def dkwX9_quoted_0 : List UInt8 := [42, 182, 0, 36, 60, 27, 5, 161, 0, 25, 42, 18, 183, 4, 182, 0, 23, 27, 4, 100, 160, 0, 12, 42]
abbrev dktX9_quoted_0 : List UInt8 := dkwX9_quoted_0 ++ dktX9_quoted_1
theorem dksX9_quoted_0 : cX9_quoted.data.toList.drop 0 = dktX9_quoted_0 := by decide +kernel
theorem dksX9_quoted_1 : cX9_quoted.data.toList.drop 24 = dktX9_quoted_1 := dk_seg dksX9_quoted_0 24 rfl rfl
theorem dksX9_quoted_2 : cX9_quoted.data.toList.drop 47 = dktX9_quoted_2 := dk_seg dksX9_quoted_1 23 rfl rfl
theorem dX9_quoted_0 : decode cX9_quoted 0 = .ok (.aload_n 0, 1) := dk_42 (dk_at dksX9_quoted_0 0 rfl rfl)
theorem dX9_quoted_1 : decode cX9_quoted 1 = .ok (.invokevirtual 36, 3) := dk_182 0 36 (dk_at dksX9_quoted_0 1 rfl rfl)
theorem dX9_quoted_4 : decode cX9_quoted 4 = .ok (.istore_n 1, 1) := dk_60 (dk_at dksX9_quoted_0 4 rfl rfl)
theorem dX9_quoted_5 : decode cX9_quoted 5 = .ok (.iload_n 1, 1) := dk_27 (dk_at dksX9_quoted_0 5 rfl rfl)
theorem dX9_quoted_6 : decode cX9_quoted 6 = .ok (.iconst 2, 1) := dk_5 (dk_at dksX9_quoted_0 6 rfl rfl)
theorem dX9_quoted_7 : decode cX9_quoted 7 = .ok (.if_icmp .lt 25, 3) := dk_161 0 25 (dk_at dksX9_quoted_0 7 rfl rfl)
theorem dX9_quoted_10 : decode cX9_quoted 10 = .ok (.aload_n 0, 1) := dk_42 (dk_at dksX9_quoted_0 10 rfl rfl)
theorem dX9_quoted_11 : decode cX9_quoted 11 = .ok (.ldc 183, 2) := dk_18 183 (dk_at dksX9_quoted_0 11 rfl rfl)
theorem dX9_quoted_13 : decode cX9_quoted 13 = .ok (.iconst 1, 1) := dk_4 (dk_at dksX9_quoted_0 13 rfl rfl)
theorem dX9_quoted_14 : decode cX9_quoted 14 = .ok (.invokevirtual 23, 3) := dk_182 0 23 (dk_at dksX9_quoted_0 14 rfl rfl)
theorem dX9_quoted_17 : decode cX9_quoted 17 = .ok (.iload_n 1, 1) := dk_27 (dk_at dksX9_quoted_0 17 rfl rfl)
theorem dX9_quoted_18 : decode cX9_quoted 18 = .ok (.iconst 1, 1) := dk_4 (dk_at dksX9_quoted_0 18 rfl rfl)
theorem dX9_quoted_19 : decode cX9_quoted 19 = .ok (.isub, 1) := dk_100 (dk_at dksX9_quoted_0 19 rfl rfl)
theorem dX9_quoted_20 : decode cX9_quoted 20 = .ok (.if_icmp .ne 12, 3) := dk_160 0 12 (dk_at dksX9_quoted_0 20 rfl rfl)
theorem dX9_quoted_23 : decode cX9_quoted 23 = .ok (.aload_n 0, 1) := dk_42 (dk_at dksX9_quoted_0 23 rfl rfl)
theorem dX9_quoted_24 : decode cX9_quoted 24 = .ok (.ldc 233, 2) := dk_18 233 (dk_at dksX9_quoted_1 0 rfl rfl)
theorem dX9_quoted_26 : decode cX9_quoted 26 = .ok (.invokevirtual 235, 3) := dk_182 0 235 (dk_at dksX9_quoted_1 2 rfl rfl)
theorem dX9_quoted_29 : decode cX9_quoted 29 = .ok (.ifCond .lt 5, 3) := dk_155 0 5 (dk_at dksX9_quoted_1 5 rfl rfl)
theorem dX9_quoted_32 : decode cX9_quoted 32 = .ok (.aconst_null, 1) := dk_1 (dk_at dksX9_quoted_1 8 rfl rfl)
theorem dX9_quoted_33 : decode cX9_quoted 33 = .ok (.areturn, 1) := dk_176 (dk_at dksX9_quoted_1 9 rfl rfl)
theorem dX9_quoted_34 : decode cX9_quoted 34 = .ok (.new 237, 3) := dk_187 0 237 (dk_at dksX9_quoted_1 10 rfl rfl)
theorem dX9_quoted_37 : decode cX9_quoted 37 = .ok (.dup, 1) := dk_89 (dk_at dksX9_quoted_1 13 rfl rfl)
theorem dX9_quoted_38 : decode cX9_quoted 38 = .ok (.new 239, 3) := dk_187 0 239 (dk_at dksX9_quoted_1 14 rfl rfl)
theorem dX9_quoted_41 : decode cX9_quoted 41 = .ok (.dup, 1) := dk_89 (dk_at dksX9_quoted_1 17 rfl rfl)
theorem dX9_quoted_42 : decode cX9_quoted 42 = .ok (.aload_n 0, 1) := dk_42 (dk_at dksX9_quoted_1 18 rfl rfl)
theorem dX9_quoted_43 : decode cX9_quoted 43 = .ok (.iconst 1, 1) := dk_4 (dk_at dksX9_quoted_1 19 rfl rfl)
theorem dX9_quoted_44 : decode cX9_quoted 44 = .ok (.iload_n 1, 1) := dk_27 (dk_at dksX9_quoted_1 20 rfl rfl)
theorem dX9_quoted_45 : decode cX9_quoted 45 = .ok (.iconst 1, 1) := dk_4 (dk_at dksX9_quoted_1 21 rfl rfl)
theorem dX9_quoted_46 : decode cX9_quoted 46 = .ok (.isub, 1) := dk_100 (dk_at dksX9_quoted_1 22 rfl rfl)
theorem dX9_quoted_47 : decode cX9_quoted 47 = .ok (.invokevirtual 60, 3) := dk_182 0 60 (dk_at dksX9_quoted_2 0 rfl rfl)
theorem dX9_quoted_50 : decode cX9_quoted 50 = .ok (.invokespecial 241, 3) := dk_183 0 241 (dk_at dksX9_quoted_2 3 rfl rfl)
theorem dX9_quoted_53 : decode cX9_quoted 53 = .ok (.invokespecial 242, 3) := dk_183 0 242 (dk_at dksX9_quoted_2 6 rfl rfl)
theorem dX9_quoted_56 : decode cX9_quoted 56 = .ok (.areturn, 1) := dk_176 (dk_at dksX9_quoted_2 9 rfl rfl)
abbrev cX9_numeral : ByteArray := prog_13_method_13_code
def yX9_numeral : MethodName := ⟨RX9, "numeral", "(Ljava/lang/String;)LTemplateEngine$Operand;"⟩
def dkwX9_numeral_3 : List UInt8 := [183, 0, 242, 176]
abbrev dktX9_numeral_3 : List UInt8 := dkwX9_numeral_3 ++ []
def dkwX9_numeral_2 : List UInt8 := [42, 182, 0, 36, 8, 164, 0, 7, 1, 167, 0, 18, 187, 0, 237, 89, 187, 0, 245, 89, 27, 183, 0, 247]
abbrev dktX9_numeral_2 : List UInt8 := dkwX9_numeral_2 ++ dktX9_numeral_3
def dkwX9_numeral_1 : List UInt8 := [29, 16, 57, 164, 0, 5, 1, 176, 16, 10, 27, 104, 29, 96, 16, 48, 100, 60, 132, 2, 1, 167, 255, 215]
abbrev dktX9_numeral_1 : List UInt8 := dkwX9_numeral_1 ++ dktX9_numeral_2
def dkwX9_numeral_0 : List UInt8 := [3, 60, 3, 61, 28, 42, 182, 0, 36, 162, 0, 39, 42, 28, 182, 0, 153, 62, 29, 16, 48, 161, 0, 9]
abbrev dktX9_numeral_0 : List UInt8 := dkwX9_numeral_0 ++ dktX9_numeral_1
theorem dksX9_numeral_0 : cX9_numeral.data.toList.drop 0 = dktX9_numeral_0 := by decide +kernel
theorem dksX9_numeral_1 : cX9_numeral.data.toList.drop 24 = dktX9_numeral_1 := dk_seg dksX9_numeral_0 24 rfl rfl
theorem dksX9_numeral_2 : cX9_numeral.data.toList.drop 48 = dktX9_numeral_2 := dk_seg dksX9_numeral_1 24 rfl rfl
theorem dksX9_numeral_3 : cX9_numeral.data.toList.drop 72 = dktX9_numeral_3 := dk_seg dksX9_numeral_2 24 rfl rfl
theorem dX9_numeral_0 : decode cX9_numeral 0 = .ok (.iconst 0, 1) := dk_3 (dk_at dksX9_numeral_0 0 rfl rfl)
theorem dX9_numeral_1 : decode cX9_numeral 1 = .ok (.istore_n 1, 1) := dk_60 (dk_at dksX9_numeral_0 1 rfl rfl)
theorem dX9_numeral_2 : decode cX9_numeral 2 = .ok (.iconst 0, 1) := dk_3 (dk_at dksX9_numeral_0 2 rfl rfl)
theorem dX9_numeral_3 : decode cX9_numeral 3 = .ok (.istore_n 2, 1) := dk_61 (dk_at dksX9_numeral_0 3 rfl rfl)
theorem dX9_numeral_4 : decode cX9_numeral 4 = .ok (.iload_n 2, 1) := dk_28 (dk_at dksX9_numeral_0 4 rfl rfl)
theorem dX9_numeral_5 : decode cX9_numeral 5 = .ok (.aload_n 0, 1) := dk_42 (dk_at dksX9_numeral_0 5 rfl rfl)
theorem dX9_numeral_6 : decode cX9_numeral 6 = .ok (.invokevirtual 36, 3) := dk_182 0 36 (dk_at dksX9_numeral_0 6 rfl rfl)
theorem dX9_numeral_9 : decode cX9_numeral 9 = .ok (.if_icmp .ge 39, 3) := dk_162 0 39 (dk_at dksX9_numeral_0 9 rfl rfl)
theorem dX9_numeral_12 : decode cX9_numeral 12 = .ok (.aload_n 0, 1) := dk_42 (dk_at dksX9_numeral_0 12 rfl rfl)
theorem dX9_numeral_13 : decode cX9_numeral 13 = .ok (.iload_n 2, 1) := dk_28 (dk_at dksX9_numeral_0 13 rfl rfl)
theorem dX9_numeral_14 : decode cX9_numeral 14 = .ok (.invokevirtual 153, 3) := dk_182 0 153 (dk_at dksX9_numeral_0 14 rfl rfl)
theorem dX9_numeral_17 : decode cX9_numeral 17 = .ok (.istore_n 3, 1) := dk_62 (dk_at dksX9_numeral_0 17 rfl rfl)
theorem dX9_numeral_18 : decode cX9_numeral 18 = .ok (.iload_n 3, 1) := dk_29 (dk_at dksX9_numeral_0 18 rfl rfl)
theorem dX9_numeral_19 : decode cX9_numeral 19 = .ok (.bipush 48, 2) := dk_16 48 (dk_at dksX9_numeral_0 19 rfl rfl)
theorem dX9_numeral_21 : decode cX9_numeral 21 = .ok (.if_icmp .lt 9, 3) := dk_161 0 9 (dk_at dksX9_numeral_0 21 rfl rfl)
theorem dX9_numeral_24 : decode cX9_numeral 24 = .ok (.iload_n 3, 1) := dk_29 (dk_at dksX9_numeral_1 0 rfl rfl)
theorem dX9_numeral_25 : decode cX9_numeral 25 = .ok (.bipush 57, 2) := dk_16 57 (dk_at dksX9_numeral_1 1 rfl rfl)
theorem dX9_numeral_27 : decode cX9_numeral 27 = .ok (.if_icmp .le 5, 3) := dk_164 0 5 (dk_at dksX9_numeral_1 3 rfl rfl)
theorem dX9_numeral_30 : decode cX9_numeral 30 = .ok (.aconst_null, 1) := dk_1 (dk_at dksX9_numeral_1 6 rfl rfl)
theorem dX9_numeral_31 : decode cX9_numeral 31 = .ok (.areturn, 1) := dk_176 (dk_at dksX9_numeral_1 7 rfl rfl)
theorem dX9_numeral_32 : decode cX9_numeral 32 = .ok (.bipush 10, 2) := dk_16 10 (dk_at dksX9_numeral_1 8 rfl rfl)
theorem dX9_numeral_34 : decode cX9_numeral 34 = .ok (.iload_n 1, 1) := dk_27 (dk_at dksX9_numeral_1 10 rfl rfl)
theorem dX9_numeral_35 : decode cX9_numeral 35 = .ok (.imul, 1) := dk_104 (dk_at dksX9_numeral_1 11 rfl rfl)
theorem dX9_numeral_36 : decode cX9_numeral 36 = .ok (.iload_n 3, 1) := dk_29 (dk_at dksX9_numeral_1 12 rfl rfl)
theorem dX9_numeral_37 : decode cX9_numeral 37 = .ok (.iadd, 1) := dk_96 (dk_at dksX9_numeral_1 13 rfl rfl)
theorem dX9_numeral_38 : decode cX9_numeral 38 = .ok (.bipush 48, 2) := dk_16 48 (dk_at dksX9_numeral_1 14 rfl rfl)
theorem dX9_numeral_40 : decode cX9_numeral 40 = .ok (.isub, 1) := dk_100 (dk_at dksX9_numeral_1 16 rfl rfl)
theorem dX9_numeral_41 : decode cX9_numeral 41 = .ok (.istore_n 1, 1) := dk_60 (dk_at dksX9_numeral_1 17 rfl rfl)
theorem dX9_numeral_42 : decode cX9_numeral 42 = .ok (.iinc 2 1, 3) := dk_132 2 1 (dk_at dksX9_numeral_1 18 rfl rfl)
theorem dX9_numeral_45 : decode cX9_numeral 45 = .ok (.goto (-41), 3) := dk_167 255 215 (dk_at dksX9_numeral_1 21 rfl rfl)
theorem dX9_numeral_48 : decode cX9_numeral 48 = .ok (.aload_n 0, 1) := dk_42 (dk_at dksX9_numeral_2 0 rfl rfl)
theorem dX9_numeral_49 : decode cX9_numeral 49 = .ok (.invokevirtual 36, 3) := dk_182 0 36 (dk_at dksX9_numeral_2 1 rfl rfl)
theorem dX9_numeral_52 : decode cX9_numeral 52 = .ok (.iconst 5, 1) := dk_8 (dk_at dksX9_numeral_2 4 rfl rfl)
theorem dX9_numeral_53 : decode cX9_numeral 53 = .ok (.if_icmp .le 7, 3) := dk_164 0 7 (dk_at dksX9_numeral_2 5 rfl rfl)
theorem dX9_numeral_56 : decode cX9_numeral 56 = .ok (.aconst_null, 1) := dk_1 (dk_at dksX9_numeral_2 8 rfl rfl)
theorem dX9_numeral_57 : decode cX9_numeral 57 = .ok (.goto 18, 3) := dk_167 0 18 (dk_at dksX9_numeral_2 9 rfl rfl)
theorem dX9_numeral_60 : decode cX9_numeral 60 = .ok (.new 237, 3) := dk_187 0 237 (dk_at dksX9_numeral_2 12 rfl rfl)
theorem dX9_numeral_63 : decode cX9_numeral 63 = .ok (.dup, 1) := dk_89 (dk_at dksX9_numeral_2 15 rfl rfl)
theorem dX9_numeral_64 : decode cX9_numeral 64 = .ok (.new 245, 3) := dk_187 0 245 (dk_at dksX9_numeral_2 16 rfl rfl)
theorem dX9_numeral_67 : decode cX9_numeral 67 = .ok (.dup, 1) := dk_89 (dk_at dksX9_numeral_2 19 rfl rfl)
theorem dX9_numeral_68 : decode cX9_numeral 68 = .ok (.iload_n 1, 1) := dk_27 (dk_at dksX9_numeral_2 20 rfl rfl)
theorem dX9_numeral_69 : decode cX9_numeral 69 = .ok (.invokespecial 247, 3) := dk_183 0 247 (dk_at dksX9_numeral_2 21 rfl rfl)
theorem dX9_numeral_72 : decode cX9_numeral 72 = .ok (.invokespecial 242, 3) := dk_183 0 242 (dk_at dksX9_numeral_3 0 rfl rfl)
theorem dX9_numeral_75 : decode cX9_numeral 75 = .ok (.areturn, 1) := dk_176 (dk_at dksX9_numeral_3 3 rfl rfl)
abbrev cX9_path : ByteArray := prog_13_method_14_code
def yX9_path : MethodName := ⟨RX9, "path", "(Ljava/lang/String;)LTemplateEngine$Operand;"⟩
def dkwX9_path_10 : List UInt8 := [192, 0, 24, 83, 132, 7, 1, 167, 255, 230, 187, 0, 252, 89, 27, 25, 6, 183, 0, 254, 176]
abbrev dktX9_path_10 : List UInt8 := dkwX9_path_10 ++ []
def dkwX9_path_9 : List UInt8 := [58, 6, 3, 54, 7, 21, 7, 25, 6, 190, 162, 0, 24, 25, 6, 21, 7, 25, 4, 21, 7, 182, 0, 113]
abbrev dktX9_path_9 : List UInt8 := dkwX9_path_9 ++ dktX9_path_10
def dkwX9_path_8 : List UInt8 := [25, 8, 182, 0, 94, 87, 21, 7, 4, 96, 54, 5, 167, 255, 123, 25, 4, 182, 0, 108, 189, 0, 24]
abbrev dktX9_path_8 : List UInt8 := dkwX9_path_8 ++ dktX9_path_9
def dkwX9_path_7 : List UInt8 := [21, 9, 153, 0, 18, 21, 5, 154, 0, 15, 25, 8, 18, 250, 182, 0, 68, 153, 0, 5, 1, 176, 25, 4]
abbrev dktX9_path_7 : List UInt8 := dkwX9_path_7 ++ dktX9_path_8
def dkwX9_path_6 : List UInt8 := [163, 0, 7, 4, 167, 0, 4, 3, 54, 9, 25, 8, 184, 1, 3, 154, 0, 13, 21, 5, 153, 0, 23]
abbrev dktX9_path_6 : List UInt8 := dkwX9_path_6 ++ dktX9_path_7
def dkwX9_path_5 : List UInt8 := [160, 0, 29, 25, 8, 3, 182, 0, 153, 16, 48, 161, 0, 18, 25, 8, 3, 182, 0, 153, 16, 57]
abbrev dktX9_path_5 : List UInt8 := dkwX9_path_5 ++ dktX9_path_6
def dkwX9_path_4 : List UInt8 := [167, 0, 5, 21, 6, 54, 7, 45, 21, 5, 21, 7, 182, 0, 60, 58, 8, 25, 8, 182, 0, 36, 4]
abbrev dktX9_path_4 : List UInt8 := dkwX9_path_4 ++ dktX9_path_5
def dkwX9_path_3 : List UInt8 := [163, 0, 130, 45, 19, 1, 1, 21, 5, 182, 0, 23, 54, 6, 21, 6, 156, 0, 10, 45, 182, 0, 36]
abbrev dktX9_path_3 : List UInt8 := dkwX9_path_3 ++ dktX9_path_4
def dkwX9_path_2 : List UInt8 := [183, 0, 254, 176, 187, 0, 78, 89, 183, 0, 80, 58, 4, 3, 54, 5, 21, 5, 45, 182, 0, 36]
abbrev dktX9_path_2 : List UInt8 := dkwX9_path_2 ++ dktX9_path_3
def dkwX9_path_1 : List UInt8 := [28, 182, 0, 32, 78, 45, 18, 250, 182, 0, 68, 153, 0, 16, 187, 0, 252, 89, 27, 3, 189, 0, 24]
abbrev dktX9_path_1 : List UInt8 := dkwX9_path_1 ++ dktX9_path_2
def dkwX9_path_0 : List UInt8 := [3, 60, 3, 61, 42, 18, 248, 28, 184, 0, 42, 153, 0, 12, 132, 1, 1, 132, 2, 3, 167, 255, 240, 42]
abbrev dktX9_path_0 : List UInt8 := dkwX9_path_0 ++ dktX9_path_1
theorem dksX9_path_0 : cX9_path.data.toList.drop 0 = dktX9_path_0 := by decide +kernel
theorem dksX9_path_1 : cX9_path.data.toList.drop 24 = dktX9_path_1 := dk_seg dksX9_path_0 24 rfl rfl
theorem dksX9_path_2 : cX9_path.data.toList.drop 47 = dktX9_path_2 := dk_seg dksX9_path_1 23 rfl rfl
theorem dksX9_path_3 : cX9_path.data.toList.drop 69 = dktX9_path_3 := dk_seg dksX9_path_2 22 rfl rfl
theorem dksX9_path_4 : cX9_path.data.toList.drop 92 = dktX9_path_4 := dk_seg dksX9_path_3 23 rfl rfl
theorem dksX9_path_5 : cX9_path.data.toList.drop 115 = dktX9_path_5 := dk_seg dksX9_path_4 23 rfl rfl
theorem dksX9_path_6 : cX9_path.data.toList.drop 137 = dktX9_path_6 := dk_seg dksX9_path_5 22 rfl rfl
theorem dksX9_path_7 : cX9_path.data.toList.drop 160 = dktX9_path_7 := dk_seg dksX9_path_6 23 rfl rfl
theorem dksX9_path_8 : cX9_path.data.toList.drop 184 = dktX9_path_8 := dk_seg dksX9_path_7 24 rfl rfl
theorem dksX9_path_9 : cX9_path.data.toList.drop 207 = dktX9_path_9 := dk_seg dksX9_path_8 23 rfl rfl
theorem dksX9_path_10 : cX9_path.data.toList.drop 231 = dktX9_path_10 := dk_seg dksX9_path_9 24 rfl rfl
theorem dX9_path_0 : decode cX9_path 0 = .ok (.iconst 0, 1) := dk_3 (dk_at dksX9_path_0 0 rfl rfl)
theorem dX9_path_1 : decode cX9_path 1 = .ok (.istore_n 1, 1) := dk_60 (dk_at dksX9_path_0 1 rfl rfl)
theorem dX9_path_2 : decode cX9_path 2 = .ok (.iconst 0, 1) := dk_3 (dk_at dksX9_path_0 2 rfl rfl)
theorem dX9_path_3 : decode cX9_path 3 = .ok (.istore_n 2, 1) := dk_61 (dk_at dksX9_path_0 3 rfl rfl)
theorem dX9_path_4 : decode cX9_path 4 = .ok (.aload_n 0, 1) := dk_42 (dk_at dksX9_path_0 4 rfl rfl)
theorem dX9_path_5 : decode cX9_path 5 = .ok (.ldc 248, 2) := dk_18 248 (dk_at dksX9_path_0 5 rfl rfl)
theorem dX9_path_7 : decode cX9_path 7 = .ok (.iload_n 2, 1) := dk_28 (dk_at dksX9_path_0 7 rfl rfl)
theorem dX9_path_8 : decode cX9_path 8 = .ok (.invokestatic 42, 3) := dk_184 0 42 (dk_at dksX9_path_0 8 rfl rfl)
theorem dX9_path_11 : decode cX9_path 11 = .ok (.ifCond .eq 12, 3) := dk_153 0 12 (dk_at dksX9_path_0 11 rfl rfl)
theorem dX9_path_14 : decode cX9_path 14 = .ok (.iinc 1 1, 3) := dk_132 1 1 (dk_at dksX9_path_0 14 rfl rfl)
theorem dX9_path_17 : decode cX9_path 17 = .ok (.iinc 2 3, 3) := dk_132 2 3 (dk_at dksX9_path_0 17 rfl rfl)
theorem dX9_path_20 : decode cX9_path 20 = .ok (.goto (-16), 3) := dk_167 255 240 (dk_at dksX9_path_0 20 rfl rfl)
theorem dX9_path_23 : decode cX9_path 23 = .ok (.aload_n 0, 1) := dk_42 (dk_at dksX9_path_0 23 rfl rfl)
theorem dX9_path_24 : decode cX9_path 24 = .ok (.iload_n 2, 1) := dk_28 (dk_at dksX9_path_1 0 rfl rfl)
theorem dX9_path_25 : decode cX9_path 25 = .ok (.invokevirtual 32, 3) := dk_182 0 32 (dk_at dksX9_path_1 1 rfl rfl)
theorem dX9_path_28 : decode cX9_path 28 = .ok (.astore_n 3, 1) := dk_78 (dk_at dksX9_path_1 4 rfl rfl)
theorem dX9_path_29 : decode cX9_path 29 = .ok (.aload_n 3, 1) := dk_45 (dk_at dksX9_path_1 5 rfl rfl)
theorem dX9_path_30 : decode cX9_path 30 = .ok (.ldc 250, 2) := dk_18 250 (dk_at dksX9_path_1 6 rfl rfl)
theorem dX9_path_32 : decode cX9_path 32 = .ok (.invokevirtual 68, 3) := dk_182 0 68 (dk_at dksX9_path_1 8 rfl rfl)
theorem dX9_path_35 : decode cX9_path 35 = .ok (.ifCond .eq 16, 3) := dk_153 0 16 (dk_at dksX9_path_1 11 rfl rfl)
theorem dX9_path_38 : decode cX9_path 38 = .ok (.new 252, 3) := dk_187 0 252 (dk_at dksX9_path_1 14 rfl rfl)
theorem dX9_path_41 : decode cX9_path 41 = .ok (.dup, 1) := dk_89 (dk_at dksX9_path_1 17 rfl rfl)
theorem dX9_path_42 : decode cX9_path 42 = .ok (.iload_n 1, 1) := dk_27 (dk_at dksX9_path_1 18 rfl rfl)
theorem dX9_path_43 : decode cX9_path 43 = .ok (.iconst 0, 1) := dk_3 (dk_at dksX9_path_1 19 rfl rfl)
theorem dX9_path_44 : decode cX9_path 44 = .ok (.anewarray 24, 3) := dk_189 0 24 (dk_at dksX9_path_1 20 rfl rfl)
theorem dX9_path_47 : decode cX9_path 47 = .ok (.invokespecial 254, 3) := dk_183 0 254 (dk_at dksX9_path_2 0 rfl rfl)
theorem dX9_path_50 : decode cX9_path 50 = .ok (.areturn, 1) := dk_176 (dk_at dksX9_path_2 3 rfl rfl)
theorem dX9_path_51 : decode cX9_path 51 = .ok (.new 78, 3) := dk_187 0 78 (dk_at dksX9_path_2 4 rfl rfl)
theorem dX9_path_54 : decode cX9_path 54 = .ok (.dup, 1) := dk_89 (dk_at dksX9_path_2 7 rfl rfl)
theorem dX9_path_55 : decode cX9_path 55 = .ok (.invokespecial 80, 3) := dk_183 0 80 (dk_at dksX9_path_2 8 rfl rfl)
theorem dX9_path_58 : decode cX9_path 58 = .ok (.astore 4, 2) := dk_58 4 (dk_at dksX9_path_2 11 rfl rfl)
theorem dX9_path_60 : decode cX9_path 60 = .ok (.iconst 0, 1) := dk_3 (dk_at dksX9_path_2 13 rfl rfl)
theorem dX9_path_61 : decode cX9_path 61 = .ok (.istore 5, 2) := dk_54 5 (dk_at dksX9_path_2 14 rfl rfl)
theorem dX9_path_63 : decode cX9_path 63 = .ok (.iload 5, 2) := dk_21 5 (dk_at dksX9_path_2 16 rfl rfl)
theorem dX9_path_65 : decode cX9_path 65 = .ok (.aload_n 3, 1) := dk_45 (dk_at dksX9_path_2 18 rfl rfl)
theorem dX9_path_66 : decode cX9_path 66 = .ok (.invokevirtual 36, 3) := dk_182 0 36 (dk_at dksX9_path_2 19 rfl rfl)
theorem dX9_path_69 : decode cX9_path 69 = .ok (.if_icmp .gt 130, 3) := dk_163 0 130 (dk_at dksX9_path_3 0 rfl rfl)
theorem dX9_path_72 : decode cX9_path 72 = .ok (.aload_n 3, 1) := dk_45 (dk_at dksX9_path_3 3 rfl rfl)
theorem dX9_path_73 : decode cX9_path 73 = .ok (.ldc_w 257, 3) := dk_19 1 1 (dk_at dksX9_path_3 4 rfl rfl)
theorem dX9_path_76 : decode cX9_path 76 = .ok (.iload 5, 2) := dk_21 5 (dk_at dksX9_path_3 7 rfl rfl)
theorem dX9_path_78 : decode cX9_path 78 = .ok (.invokevirtual 23, 3) := dk_182 0 23 (dk_at dksX9_path_3 9 rfl rfl)
theorem dX9_path_81 : decode cX9_path 81 = .ok (.istore 6, 2) := dk_54 6 (dk_at dksX9_path_3 12 rfl rfl)
theorem dX9_path_83 : decode cX9_path 83 = .ok (.iload 6, 2) := dk_21 6 (dk_at dksX9_path_3 14 rfl rfl)
theorem dX9_path_85 : decode cX9_path 85 = .ok (.ifCond .ge 10, 3) := dk_156 0 10 (dk_at dksX9_path_3 16 rfl rfl)
theorem dX9_path_88 : decode cX9_path 88 = .ok (.aload_n 3, 1) := dk_45 (dk_at dksX9_path_3 19 rfl rfl)
theorem dX9_path_89 : decode cX9_path 89 = .ok (.invokevirtual 36, 3) := dk_182 0 36 (dk_at dksX9_path_3 20 rfl rfl)
theorem dX9_path_92 : decode cX9_path 92 = .ok (.goto 5, 3) := dk_167 0 5 (dk_at dksX9_path_4 0 rfl rfl)
theorem dX9_path_95 : decode cX9_path 95 = .ok (.iload 6, 2) := dk_21 6 (dk_at dksX9_path_4 3 rfl rfl)
theorem dX9_path_97 : decode cX9_path 97 = .ok (.istore 7, 2) := dk_54 7 (dk_at dksX9_path_4 5 rfl rfl)
theorem dX9_path_99 : decode cX9_path 99 = .ok (.aload_n 3, 1) := dk_45 (dk_at dksX9_path_4 7 rfl rfl)
theorem dX9_path_100 : decode cX9_path 100 = .ok (.iload 5, 2) := dk_21 5 (dk_at dksX9_path_4 8 rfl rfl)
theorem dX9_path_102 : decode cX9_path 102 = .ok (.iload 7, 2) := dk_21 7 (dk_at dksX9_path_4 10 rfl rfl)
theorem dX9_path_104 : decode cX9_path 104 = .ok (.invokevirtual 60, 3) := dk_182 0 60 (dk_at dksX9_path_4 12 rfl rfl)
theorem dX9_path_107 : decode cX9_path 107 = .ok (.astore 8, 2) := dk_58 8 (dk_at dksX9_path_4 15 rfl rfl)
theorem dX9_path_109 : decode cX9_path 109 = .ok (.aload 8, 2) := dk_25 8 (dk_at dksX9_path_4 17 rfl rfl)
theorem dX9_path_111 : decode cX9_path 111 = .ok (.invokevirtual 36, 3) := dk_182 0 36 (dk_at dksX9_path_4 19 rfl rfl)
theorem dX9_path_114 : decode cX9_path 114 = .ok (.iconst 1, 1) := dk_4 (dk_at dksX9_path_4 22 rfl rfl)
theorem dX9_path_115 : decode cX9_path 115 = .ok (.if_icmp .ne 29, 3) := dk_160 0 29 (dk_at dksX9_path_5 0 rfl rfl)
theorem dX9_path_118 : decode cX9_path 118 = .ok (.aload 8, 2) := dk_25 8 (dk_at dksX9_path_5 3 rfl rfl)
theorem dX9_path_120 : decode cX9_path 120 = .ok (.iconst 0, 1) := dk_3 (dk_at dksX9_path_5 5 rfl rfl)
theorem dX9_path_121 : decode cX9_path 121 = .ok (.invokevirtual 153, 3) := dk_182 0 153 (dk_at dksX9_path_5 6 rfl rfl)
theorem dX9_path_124 : decode cX9_path 124 = .ok (.bipush 48, 2) := dk_16 48 (dk_at dksX9_path_5 9 rfl rfl)
theorem dX9_path_126 : decode cX9_path 126 = .ok (.if_icmp .lt 18, 3) := dk_161 0 18 (dk_at dksX9_path_5 11 rfl rfl)
theorem dX9_path_129 : decode cX9_path 129 = .ok (.aload 8, 2) := dk_25 8 (dk_at dksX9_path_5 14 rfl rfl)
theorem dX9_path_131 : decode cX9_path 131 = .ok (.iconst 0, 1) := dk_3 (dk_at dksX9_path_5 16 rfl rfl)
theorem dX9_path_132 : decode cX9_path 132 = .ok (.invokevirtual 153, 3) := dk_182 0 153 (dk_at dksX9_path_5 17 rfl rfl)
theorem dX9_path_135 : decode cX9_path 135 = .ok (.bipush 57, 2) := dk_16 57 (dk_at dksX9_path_5 20 rfl rfl)
theorem dX9_path_137 : decode cX9_path 137 = .ok (.if_icmp .gt 7, 3) := dk_163 0 7 (dk_at dksX9_path_6 0 rfl rfl)
theorem dX9_path_140 : decode cX9_path 140 = .ok (.iconst 1, 1) := dk_4 (dk_at dksX9_path_6 3 rfl rfl)
theorem dX9_path_141 : decode cX9_path 141 = .ok (.goto 4, 3) := dk_167 0 4 (dk_at dksX9_path_6 4 rfl rfl)
theorem dX9_path_144 : decode cX9_path 144 = .ok (.iconst 0, 1) := dk_3 (dk_at dksX9_path_6 7 rfl rfl)
theorem dX9_path_145 : decode cX9_path 145 = .ok (.istore 9, 2) := dk_54 9 (dk_at dksX9_path_6 8 rfl rfl)
theorem dX9_path_147 : decode cX9_path 147 = .ok (.aload 8, 2) := dk_25 8 (dk_at dksX9_path_6 10 rfl rfl)
theorem dX9_path_149 : decode cX9_path 149 = .ok (.invokestatic 259, 3) := dk_184 1 3 (dk_at dksX9_path_6 12 rfl rfl)
theorem dX9_path_152 : decode cX9_path 152 = .ok (.ifCond .ne 13, 3) := dk_154 0 13 (dk_at dksX9_path_6 15 rfl rfl)
theorem dX9_path_155 : decode cX9_path 155 = .ok (.iload 5, 2) := dk_21 5 (dk_at dksX9_path_6 18 rfl rfl)
theorem dX9_path_157 : decode cX9_path 157 = .ok (.ifCond .eq 23, 3) := dk_153 0 23 (dk_at dksX9_path_6 20 rfl rfl)
theorem dX9_path_160 : decode cX9_path 160 = .ok (.iload 9, 2) := dk_21 9 (dk_at dksX9_path_7 0 rfl rfl)
theorem dX9_path_162 : decode cX9_path 162 = .ok (.ifCond .eq 18, 3) := dk_153 0 18 (dk_at dksX9_path_7 2 rfl rfl)
theorem dX9_path_165 : decode cX9_path 165 = .ok (.iload 5, 2) := dk_21 5 (dk_at dksX9_path_7 5 rfl rfl)
theorem dX9_path_167 : decode cX9_path 167 = .ok (.ifCond .ne 15, 3) := dk_154 0 15 (dk_at dksX9_path_7 7 rfl rfl)
theorem dX9_path_170 : decode cX9_path 170 = .ok (.aload 8, 2) := dk_25 8 (dk_at dksX9_path_7 10 rfl rfl)
theorem dX9_path_172 : decode cX9_path 172 = .ok (.ldc 250, 2) := dk_18 250 (dk_at dksX9_path_7 12 rfl rfl)
theorem dX9_path_174 : decode cX9_path 174 = .ok (.invokevirtual 68, 3) := dk_182 0 68 (dk_at dksX9_path_7 14 rfl rfl)
theorem dX9_path_177 : decode cX9_path 177 = .ok (.ifCond .eq 5, 3) := dk_153 0 5 (dk_at dksX9_path_7 17 rfl rfl)
theorem dX9_path_180 : decode cX9_path 180 = .ok (.aconst_null, 1) := dk_1 (dk_at dksX9_path_7 20 rfl rfl)
theorem dX9_path_181 : decode cX9_path 181 = .ok (.areturn, 1) := dk_176 (dk_at dksX9_path_7 21 rfl rfl)
theorem dX9_path_182 : decode cX9_path 182 = .ok (.aload 4, 2) := dk_25 4 (dk_at dksX9_path_7 22 rfl rfl)
theorem dX9_path_184 : decode cX9_path 184 = .ok (.aload 8, 2) := dk_25 8 (dk_at dksX9_path_8 0 rfl rfl)
theorem dX9_path_186 : decode cX9_path 186 = .ok (.invokevirtual 94, 3) := dk_182 0 94 (dk_at dksX9_path_8 2 rfl rfl)
theorem dX9_path_189 : decode cX9_path 189 = .ok (.pop, 1) := dk_87 (dk_at dksX9_path_8 5 rfl rfl)
theorem dX9_path_190 : decode cX9_path 190 = .ok (.iload 7, 2) := dk_21 7 (dk_at dksX9_path_8 6 rfl rfl)
theorem dX9_path_192 : decode cX9_path 192 = .ok (.iconst 1, 1) := dk_4 (dk_at dksX9_path_8 8 rfl rfl)
theorem dX9_path_193 : decode cX9_path 193 = .ok (.iadd, 1) := dk_96 (dk_at dksX9_path_8 9 rfl rfl)
theorem dX9_path_194 : decode cX9_path 194 = .ok (.istore 5, 2) := dk_54 5 (dk_at dksX9_path_8 10 rfl rfl)
theorem dX9_path_196 : decode cX9_path 196 = .ok (.goto (-133), 3) := dk_167 255 123 (dk_at dksX9_path_8 12 rfl rfl)
theorem dX9_path_199 : decode cX9_path 199 = .ok (.aload 4, 2) := dk_25 4 (dk_at dksX9_path_8 15 rfl rfl)
theorem dX9_path_201 : decode cX9_path 201 = .ok (.invokevirtual 108, 3) := dk_182 0 108 (dk_at dksX9_path_8 17 rfl rfl)
theorem dX9_path_204 : decode cX9_path 204 = .ok (.anewarray 24, 3) := dk_189 0 24 (dk_at dksX9_path_8 20 rfl rfl)
theorem dX9_path_207 : decode cX9_path 207 = .ok (.astore 6, 2) := dk_58 6 (dk_at dksX9_path_9 0 rfl rfl)
theorem dX9_path_209 : decode cX9_path 209 = .ok (.iconst 0, 1) := dk_3 (dk_at dksX9_path_9 2 rfl rfl)
theorem dX9_path_210 : decode cX9_path 210 = .ok (.istore 7, 2) := dk_54 7 (dk_at dksX9_path_9 3 rfl rfl)
theorem dX9_path_212 : decode cX9_path 212 = .ok (.iload 7, 2) := dk_21 7 (dk_at dksX9_path_9 5 rfl rfl)
theorem dX9_path_214 : decode cX9_path 214 = .ok (.aload 6, 2) := dk_25 6 (dk_at dksX9_path_9 7 rfl rfl)
theorem dX9_path_216 : decode cX9_path 216 = .ok (.arraylength, 1) := dk_190 (dk_at dksX9_path_9 9 rfl rfl)
theorem dX9_path_217 : decode cX9_path 217 = .ok (.if_icmp .ge 24, 3) := dk_162 0 24 (dk_at dksX9_path_9 10 rfl rfl)
theorem dX9_path_220 : decode cX9_path 220 = .ok (.aload 6, 2) := dk_25 6 (dk_at dksX9_path_9 13 rfl rfl)
theorem dX9_path_222 : decode cX9_path 222 = .ok (.iload 7, 2) := dk_21 7 (dk_at dksX9_path_9 15 rfl rfl)
theorem dX9_path_224 : decode cX9_path 224 = .ok (.aload 4, 2) := dk_25 4 (dk_at dksX9_path_9 17 rfl rfl)
theorem dX9_path_226 : decode cX9_path 226 = .ok (.iload 7, 2) := dk_21 7 (dk_at dksX9_path_9 19 rfl rfl)
theorem dX9_path_228 : decode cX9_path 228 = .ok (.invokevirtual 113, 3) := dk_182 0 113 (dk_at dksX9_path_9 21 rfl rfl)
theorem dX9_path_231 : decode cX9_path 231 = .ok (.checkcast 24, 3) := dk_192 0 24 (dk_at dksX9_path_10 0 rfl rfl)
theorem dX9_path_234 : decode cX9_path 234 = .ok (.aastore, 1) := dk_83 (dk_at dksX9_path_10 3 rfl rfl)
theorem dX9_path_235 : decode cX9_path 235 = .ok (.iinc 7 1, 3) := dk_132 7 1 (dk_at dksX9_path_10 4 rfl rfl)
theorem dX9_path_238 : decode cX9_path 238 = .ok (.goto (-26), 3) := dk_167 255 230 (dk_at dksX9_path_10 7 rfl rfl)
theorem dX9_path_241 : decode cX9_path 241 = .ok (.new 252, 3) := dk_187 0 252 (dk_at dksX9_path_10 10 rfl rfl)
theorem dX9_path_244 : decode cX9_path 244 = .ok (.dup, 1) := dk_89 (dk_at dksX9_path_10 13 rfl rfl)
theorem dX9_path_245 : decode cX9_path 245 = .ok (.iload_n 1, 1) := dk_27 (dk_at dksX9_path_10 14 rfl rfl)
theorem dX9_path_246 : decode cX9_path 246 = .ok (.aload 6, 2) := dk_25 6 (dk_at dksX9_path_10 15 rfl rfl)
theorem dX9_path_248 : decode cX9_path 248 = .ok (.invokespecial 254, 3) := dk_183 0 254 (dk_at dksX9_path_10 17 rfl rfl)
theorem dX9_path_251 : decode cX9_path 251 = .ok (.areturn, 1) := dk_176 (dk_at dksX9_path_10 20 rfl rfl)
abbrev cX9_operands : ByteArray := prog_13_method_9_code
def yX9_operands : MethodName := ⟨RX9, "operands", "(Ljava/lang/String;)I"⟩
def dkwX9_operands_7 : List UInt8 := [4, 172, 5, 172, 3, 172]
abbrev dktX9_operands_7 : List UInt8 := dkwX9_operands_7 ++ []
def dkwX9_operands_6 : List UInt8 := [170, 0, 0, 0, 0, 42, 0, 0, 0, 0, 0, 0, 0, 5, 0, 0, 0, 38, 0, 0, 0, 38, 0, 0, 0, 38, 0, 0, 0, 40, 0, 0, 0, 40, 0, 0, 0, 40]
abbrev dktX9_operands_6 : List UInt8 := dkwX9_operands_6 ++ dktX9_operands_7
def dkwX9_operands_5 : List UInt8 := [18, 199, 182, 0, 68, 153, 0, 5, 8, 61, 28]
abbrev dktX9_operands_5 : List UInt8 := dkwX9_operands_5 ++ dktX9_operands_6
def dkwX9_operands_4 : List UInt8 := [153, 0, 33, 6, 61, 167, 0, 28, 43, 18, 197, 182, 0, 68, 153, 0, 19, 7, 61, 167, 0, 14, 43]
abbrev dktX9_operands_4 : List UInt8 := dkwX9_operands_4 ++ dktX9_operands_5
def dkwX9_operands_3 : List UInt8 := [61, 167, 0, 56, 43, 18, 194, 182, 0, 68, 153, 0, 47, 5, 61, 167, 0, 42, 43, 18, 196, 182, 0, 68]
abbrev dktX9_operands_3 : List UInt8 := dkwX9_operands_3 ++ dktX9_operands_4
def dkwX9_operands_2 : List UInt8 := [43, 18, 190, 182, 0, 68, 153, 0, 75, 3, 61, 167, 0, 70, 43, 18, 192, 182, 0, 68, 153, 0, 61, 4]
abbrev dktX9_operands_2 : List UInt8 := dkwX9_operands_2 ++ dktX9_operands_3
def dkwX9_operands_1 : List UInt8 := [171, 0, 0, 0, 0, 0, 0, 141, 0, 0, 0, 6, 0, 0, 12, 51, 0, 0, 0, 130, 0, 0, 12, 172, 0, 0, 0, 116, 0, 0, 14, 155, 0, 0, 0, 60, 0, 1, 120, 161, 0, 0, 0, 102, 0, 1, 162, 21, 0, 0, 0, 74, 0, 1, 170, 211, 0, 0, 0, 88]
abbrev dktX9_operands_1 : List UInt8 := dkwX9_operands_1 ++ dktX9_operands_2
def dkwX9_operands_0 : List UInt8 := [42, 76, 2, 61, 43, 182, 0, 187]
abbrev dktX9_operands_0 : List UInt8 := dkwX9_operands_0 ++ dktX9_operands_1
theorem dksX9_operands_0 : cX9_operands.data.toList.drop 0 = dktX9_operands_0 := by decide +kernel
theorem dksX9_operands_1 : cX9_operands.data.toList.drop 8 = dktX9_operands_1 := dk_seg dksX9_operands_0 8 rfl rfl
theorem dksX9_operands_2 : cX9_operands.data.toList.drop 68 = dktX9_operands_2 := dk_seg dksX9_operands_1 60 rfl rfl
theorem dksX9_operands_3 : cX9_operands.data.toList.drop 92 = dktX9_operands_3 := dk_seg dksX9_operands_2 24 rfl rfl
theorem dksX9_operands_4 : cX9_operands.data.toList.drop 116 = dktX9_operands_4 := dk_seg dksX9_operands_3 24 rfl rfl
theorem dksX9_operands_5 : cX9_operands.data.toList.drop 139 = dktX9_operands_5 := dk_seg dksX9_operands_4 23 rfl rfl
theorem dksX9_operands_6 : cX9_operands.data.toList.drop 150 = dktX9_operands_6 := dk_seg dksX9_operands_5 11 rfl rfl
theorem dksX9_operands_7 : cX9_operands.data.toList.drop 188 = dktX9_operands_7 := dk_seg dksX9_operands_6 38 rfl rfl
theorem dX9_operands_0 : decode cX9_operands 0 = .ok (.aload_n 0, 1) := dk_42 (dk_at dksX9_operands_0 0 rfl rfl)
theorem dX9_operands_1 : decode cX9_operands 1 = .ok (.astore_n 1, 1) := dk_76 (dk_at dksX9_operands_0 1 rfl rfl)
theorem dX9_operands_2 : decode cX9_operands 2 = .ok (.iconst (-1), 1) := dk_2 (dk_at dksX9_operands_0 2 rfl rfl)
theorem dX9_operands_3 : decode cX9_operands 3 = .ok (.istore_n 2, 1) := dk_61 (dk_at dksX9_operands_0 3 rfl rfl)
theorem dX9_operands_4 : decode cX9_operands 4 = .ok (.aload_n 1, 1) := dk_43 (dk_at dksX9_operands_0 4 rfl rfl)
theorem dX9_operands_5 : decode cX9_operands 5 = .ok (.invokevirtual 187, 3) := dk_182 0 187 (dk_at dksX9_operands_0 5 rfl rfl)
theorem dX9_operands_8 : decode cX9_operands 8 = .ok (.lookupswitch 141 #[(3123, 130), (3244, 116), (3739, 60), (96417, 102), (107029, 74), (109267, 88)], 60) := by decide +kernel
theorem dX9_operands_68 : decode cX9_operands 68 = .ok (.aload_n 1, 1) := dk_43 (dk_at dksX9_operands_2 0 rfl rfl)
theorem dX9_operands_69 : decode cX9_operands 69 = .ok (.ldc 190, 2) := dk_18 190 (dk_at dksX9_operands_2 1 rfl rfl)
theorem dX9_operands_71 : decode cX9_operands 71 = .ok (.invokevirtual 68, 3) := dk_182 0 68 (dk_at dksX9_operands_2 3 rfl rfl)
theorem dX9_operands_74 : decode cX9_operands 74 = .ok (.ifCond .eq 75, 3) := dk_153 0 75 (dk_at dksX9_operands_2 6 rfl rfl)
theorem dX9_operands_77 : decode cX9_operands 77 = .ok (.iconst 0, 1) := dk_3 (dk_at dksX9_operands_2 9 rfl rfl)
theorem dX9_operands_78 : decode cX9_operands 78 = .ok (.istore_n 2, 1) := dk_61 (dk_at dksX9_operands_2 10 rfl rfl)
theorem dX9_operands_79 : decode cX9_operands 79 = .ok (.goto 70, 3) := dk_167 0 70 (dk_at dksX9_operands_2 11 rfl rfl)
theorem dX9_operands_82 : decode cX9_operands 82 = .ok (.aload_n 1, 1) := dk_43 (dk_at dksX9_operands_2 14 rfl rfl)
theorem dX9_operands_83 : decode cX9_operands 83 = .ok (.ldc 192, 2) := dk_18 192 (dk_at dksX9_operands_2 15 rfl rfl)
theorem dX9_operands_85 : decode cX9_operands 85 = .ok (.invokevirtual 68, 3) := dk_182 0 68 (dk_at dksX9_operands_2 17 rfl rfl)
theorem dX9_operands_88 : decode cX9_operands 88 = .ok (.ifCond .eq 61, 3) := dk_153 0 61 (dk_at dksX9_operands_2 20 rfl rfl)
theorem dX9_operands_91 : decode cX9_operands 91 = .ok (.iconst 1, 1) := dk_4 (dk_at dksX9_operands_2 23 rfl rfl)
theorem dX9_operands_92 : decode cX9_operands 92 = .ok (.istore_n 2, 1) := dk_61 (dk_at dksX9_operands_3 0 rfl rfl)
theorem dX9_operands_93 : decode cX9_operands 93 = .ok (.goto 56, 3) := dk_167 0 56 (dk_at dksX9_operands_3 1 rfl rfl)
theorem dX9_operands_96 : decode cX9_operands 96 = .ok (.aload_n 1, 1) := dk_43 (dk_at dksX9_operands_3 4 rfl rfl)
theorem dX9_operands_97 : decode cX9_operands 97 = .ok (.ldc 194, 2) := dk_18 194 (dk_at dksX9_operands_3 5 rfl rfl)
theorem dX9_operands_99 : decode cX9_operands 99 = .ok (.invokevirtual 68, 3) := dk_182 0 68 (dk_at dksX9_operands_3 7 rfl rfl)
theorem dX9_operands_102 : decode cX9_operands 102 = .ok (.ifCond .eq 47, 3) := dk_153 0 47 (dk_at dksX9_operands_3 10 rfl rfl)
theorem dX9_operands_105 : decode cX9_operands 105 = .ok (.iconst 2, 1) := dk_5 (dk_at dksX9_operands_3 13 rfl rfl)
theorem dX9_operands_106 : decode cX9_operands 106 = .ok (.istore_n 2, 1) := dk_61 (dk_at dksX9_operands_3 14 rfl rfl)
theorem dX9_operands_107 : decode cX9_operands 107 = .ok (.goto 42, 3) := dk_167 0 42 (dk_at dksX9_operands_3 15 rfl rfl)
theorem dX9_operands_110 : decode cX9_operands 110 = .ok (.aload_n 1, 1) := dk_43 (dk_at dksX9_operands_3 18 rfl rfl)
theorem dX9_operands_111 : decode cX9_operands 111 = .ok (.ldc 196, 2) := dk_18 196 (dk_at dksX9_operands_3 19 rfl rfl)
theorem dX9_operands_113 : decode cX9_operands 113 = .ok (.invokevirtual 68, 3) := dk_182 0 68 (dk_at dksX9_operands_3 21 rfl rfl)
theorem dX9_operands_116 : decode cX9_operands 116 = .ok (.ifCond .eq 33, 3) := dk_153 0 33 (dk_at dksX9_operands_4 0 rfl rfl)
theorem dX9_operands_119 : decode cX9_operands 119 = .ok (.iconst 3, 1) := dk_6 (dk_at dksX9_operands_4 3 rfl rfl)
theorem dX9_operands_120 : decode cX9_operands 120 = .ok (.istore_n 2, 1) := dk_61 (dk_at dksX9_operands_4 4 rfl rfl)
theorem dX9_operands_121 : decode cX9_operands 121 = .ok (.goto 28, 3) := dk_167 0 28 (dk_at dksX9_operands_4 5 rfl rfl)
theorem dX9_operands_124 : decode cX9_operands 124 = .ok (.aload_n 1, 1) := dk_43 (dk_at dksX9_operands_4 8 rfl rfl)
theorem dX9_operands_125 : decode cX9_operands 125 = .ok (.ldc 197, 2) := dk_18 197 (dk_at dksX9_operands_4 9 rfl rfl)
theorem dX9_operands_127 : decode cX9_operands 127 = .ok (.invokevirtual 68, 3) := dk_182 0 68 (dk_at dksX9_operands_4 11 rfl rfl)
theorem dX9_operands_130 : decode cX9_operands 130 = .ok (.ifCond .eq 19, 3) := dk_153 0 19 (dk_at dksX9_operands_4 14 rfl rfl)
theorem dX9_operands_133 : decode cX9_operands 133 = .ok (.iconst 4, 1) := dk_7 (dk_at dksX9_operands_4 17 rfl rfl)
theorem dX9_operands_134 : decode cX9_operands 134 = .ok (.istore_n 2, 1) := dk_61 (dk_at dksX9_operands_4 18 rfl rfl)
theorem dX9_operands_135 : decode cX9_operands 135 = .ok (.goto 14, 3) := dk_167 0 14 (dk_at dksX9_operands_4 19 rfl rfl)
theorem dX9_operands_138 : decode cX9_operands 138 = .ok (.aload_n 1, 1) := dk_43 (dk_at dksX9_operands_4 22 rfl rfl)
theorem dX9_operands_139 : decode cX9_operands 139 = .ok (.ldc 199, 2) := dk_18 199 (dk_at dksX9_operands_5 0 rfl rfl)
theorem dX9_operands_141 : decode cX9_operands 141 = .ok (.invokevirtual 68, 3) := dk_182 0 68 (dk_at dksX9_operands_5 2 rfl rfl)
theorem dX9_operands_144 : decode cX9_operands 144 = .ok (.ifCond .eq 5, 3) := dk_153 0 5 (dk_at dksX9_operands_5 5 rfl rfl)
theorem dX9_operands_147 : decode cX9_operands 147 = .ok (.iconst 5, 1) := dk_8 (dk_at dksX9_operands_5 8 rfl rfl)
theorem dX9_operands_148 : decode cX9_operands 148 = .ok (.istore_n 2, 1) := dk_61 (dk_at dksX9_operands_5 9 rfl rfl)
theorem dX9_operands_149 : decode cX9_operands 149 = .ok (.iload_n 2, 1) := dk_28 (dk_at dksX9_operands_5 10 rfl rfl)
theorem dX9_operands_150 : decode cX9_operands 150 = .ok (.tableswitch 42 0 5 #[38, 38, 38, 40, 40, 40], 38) := by decide +kernel
theorem dX9_operands_188 : decode cX9_operands 188 = .ok (.iconst 1, 1) := dk_4 (dk_at dksX9_operands_7 0 rfl rfl)
theorem dX9_operands_189 : decode cX9_operands 189 = .ok (.ireturn, 1) := dk_172 (dk_at dksX9_operands_7 1 rfl rfl)
theorem dX9_operands_190 : decode cX9_operands 190 = .ok (.iconst 2, 1) := dk_5 (dk_at dksX9_operands_7 2 rfl rfl)
theorem dX9_operands_191 : decode cX9_operands 191 = .ok (.ireturn, 1) := dk_172 (dk_at dksX9_operands_7 3 rfl rfl)
theorem dX9_operands_192 : decode cX9_operands 192 = .ok (.iconst 0, 1) := dk_3 (dk_at dksX9_operands_7 4 rfl rfl)
theorem dX9_operands_193 : decode cX9_operands 193 = .ok (.ireturn, 1) := dk_172 (dk_at dksX9_operands_7 5 rfl rfl)
abbrev cX9_need : ByteArray := prog_13_method_3_code
def yX9_need : MethodName := ⟨RX9, "need", "(LTemplateEngine$Operand;)LTemplateEngine$Operand;"⟩
def dkwX9_need_0 : List UInt8 := [43, 199, 0, 15, 42, 180, 0, 7, 42, 180, 0, 29, 184, 0, 56, 191, 43, 176]
abbrev dktX9_need_0 : List UInt8 := dkwX9_need_0 ++ []
theorem dksX9_need_0 : cX9_need.data.toList.drop 0 = dktX9_need_0 := by decide +kernel
theorem dX9_need_0 : decode cX9_need 0 = .ok (.aload_n 1, 1) := dk_43 (dk_at dksX9_need_0 0 rfl rfl)
theorem dX9_need_1 : decode cX9_need 1 = .ok (.ifnonnull 15, 3) := dk_199 0 15 (dk_at dksX9_need_0 1 rfl rfl)
theorem dX9_need_4 : decode cX9_need 4 = .ok (.aload_n 0, 1) := dk_42 (dk_at dksX9_need_0 4 rfl rfl)
theorem dX9_need_5 : decode cX9_need 5 = .ok (.getfield 7, 3) := dk_180 0 7 (dk_at dksX9_need_0 5 rfl rfl)
theorem dX9_need_8 : decode cX9_need 8 = .ok (.aload_n 0, 1) := dk_42 (dk_at dksX9_need_0 8 rfl rfl)
theorem dX9_need_9 : decode cX9_need 9 = .ok (.getfield 29, 3) := dk_180 0 29 (dk_at dksX9_need_0 9 rfl rfl)
theorem dX9_need_12 : decode cX9_need 12 = .ok (.invokestatic 56, 3) := dk_184 0 56 (dk_at dksX9_need_0 12 rfl rfl)
theorem dX9_need_15 : decode cX9_need 15 = .ok (.athrow, 1) := dk_191 (dk_at dksX9_need_0 15 rfl rfl)
theorem dX9_need_16 : decode cX9_need 16 = .ok (.aload_n 1, 1) := dk_43 (dk_at dksX9_need_0 16 rfl rfl)
theorem dX9_need_17 : decode cX9_need 17 = .ok (.areturn, 1) := dk_176 (dk_at dksX9_need_0 17 rfl rfl)
abbrev cX9_block : ByteArray := prog_13_method_7_code
def yX9_block : MethodName := ⟨RX9, "block", "(Ljava/lang/String;Ljava/lang/String;I)LTemplateEngine$Part;"⟩
def dkwX9_block_5 : List UInt8 := [89, 43, 25, 5, 25, 6, 25, 7, 183, 0, 180, 176]
abbrev dktX9_block_5 : List UInt8 := dkwX9_block_5 ++ []
def dkwX9_block_4 : List UInt8 := [182, 0, 175, 182, 0, 68, 154, 0, 15, 42, 180, 0, 7, 42, 180, 0, 29, 184, 0, 56, 191, 187, 0, 178]
abbrev dktX9_block_4 : List UInt8 := dkwX9_block_4 ++ dktX9_block_5
def dkwX9_block_3 : List UInt8 := [58, 7, 42, 180, 0, 63, 187, 0, 166, 89, 183, 0, 168, 18, 169, 182, 0, 171, 43, 182, 0, 171]
abbrev dktX9_block_3 : List UInt8 := dkwX9_block_3 ++ dktX9_block_4
def dkwX9_block_2 : List UInt8 := [58, 7, 42, 180, 0, 63, 18, 66, 182, 0, 68, 153, 0, 14, 42, 29, 4, 96, 21, 4, 182, 0, 162]
abbrev dktX9_block_2 : List UInt8 := dkwX9_block_2 ++ dktX9_block_3
def dkwX9_block_1 : List UInt8 := [180, 0, 7, 21, 4, 184, 0, 56, 191, 42, 29, 4, 96, 21, 4, 182, 0, 162, 58, 6, 3, 189, 0, 111]
abbrev dktX9_block_1 : List UInt8 := dkwX9_block_1 ++ dktX9_block_2
def dkwX9_block_0 : List UInt8 := [42, 180, 0, 29, 54, 4, 42, 44, 184, 0, 119, 182, 0, 123, 58, 5, 29, 7, 160, 0, 13, 42]
abbrev dktX9_block_0 : List UInt8 := dkwX9_block_0 ++ dktX9_block_1
theorem dksX9_block_0 : cX9_block.data.toList.drop 0 = dktX9_block_0 := by decide +kernel
theorem dksX9_block_1 : cX9_block.data.toList.drop 22 = dktX9_block_1 := dk_seg dksX9_block_0 22 rfl rfl
theorem dksX9_block_2 : cX9_block.data.toList.drop 46 = dktX9_block_2 := dk_seg dksX9_block_1 24 rfl rfl
theorem dksX9_block_3 : cX9_block.data.toList.drop 69 = dktX9_block_3 := dk_seg dksX9_block_2 23 rfl rfl
theorem dksX9_block_4 : cX9_block.data.toList.drop 91 = dktX9_block_4 := dk_seg dksX9_block_3 22 rfl rfl
theorem dksX9_block_5 : cX9_block.data.toList.drop 115 = dktX9_block_5 := dk_seg dksX9_block_4 24 rfl rfl
theorem dX9_block_0 : decode cX9_block 0 = .ok (.aload_n 0, 1) := dk_42 (dk_at dksX9_block_0 0 rfl rfl)
theorem dX9_block_1 : decode cX9_block 1 = .ok (.getfield 29, 3) := dk_180 0 29 (dk_at dksX9_block_0 1 rfl rfl)
theorem dX9_block_4 : decode cX9_block 4 = .ok (.istore 4, 2) := dk_54 4 (dk_at dksX9_block_0 4 rfl rfl)
theorem dX9_block_6 : decode cX9_block 6 = .ok (.aload_n 0, 1) := dk_42 (dk_at dksX9_block_0 6 rfl rfl)
theorem dX9_block_7 : decode cX9_block 7 = .ok (.aload_n 2, 1) := dk_44 (dk_at dksX9_block_0 7 rfl rfl)
theorem dX9_block_8 : decode cX9_block 8 = .ok (.invokestatic 119, 3) := dk_184 0 119 (dk_at dksX9_block_0 8 rfl rfl)
theorem dX9_block_11 : decode cX9_block 11 = .ok (.invokevirtual 123, 3) := dk_182 0 123 (dk_at dksX9_block_0 11 rfl rfl)
theorem dX9_block_14 : decode cX9_block 14 = .ok (.astore 5, 2) := dk_58 5 (dk_at dksX9_block_0 14 rfl rfl)
theorem dX9_block_16 : decode cX9_block 16 = .ok (.iload_n 3, 1) := dk_29 (dk_at dksX9_block_0 16 rfl rfl)
theorem dX9_block_17 : decode cX9_block 17 = .ok (.iconst 4, 1) := dk_7 (dk_at dksX9_block_0 17 rfl rfl)
theorem dX9_block_18 : decode cX9_block 18 = .ok (.if_icmp .ne 13, 3) := dk_160 0 13 (dk_at dksX9_block_0 18 rfl rfl)
theorem dX9_block_21 : decode cX9_block 21 = .ok (.aload_n 0, 1) := dk_42 (dk_at dksX9_block_0 21 rfl rfl)
theorem dX9_block_22 : decode cX9_block 22 = .ok (.getfield 7, 3) := dk_180 0 7 (dk_at dksX9_block_1 0 rfl rfl)
theorem dX9_block_25 : decode cX9_block 25 = .ok (.iload 4, 2) := dk_21 4 (dk_at dksX9_block_1 3 rfl rfl)
theorem dX9_block_27 : decode cX9_block 27 = .ok (.invokestatic 56, 3) := dk_184 0 56 (dk_at dksX9_block_1 5 rfl rfl)
theorem dX9_block_30 : decode cX9_block 30 = .ok (.athrow, 1) := dk_191 (dk_at dksX9_block_1 8 rfl rfl)
theorem dX9_block_31 : decode cX9_block 31 = .ok (.aload_n 0, 1) := dk_42 (dk_at dksX9_block_1 9 rfl rfl)
theorem dX9_block_32 : decode cX9_block 32 = .ok (.iload_n 3, 1) := dk_29 (dk_at dksX9_block_1 10 rfl rfl)
theorem dX9_block_33 : decode cX9_block 33 = .ok (.iconst 1, 1) := dk_4 (dk_at dksX9_block_1 11 rfl rfl)
theorem dX9_block_34 : decode cX9_block 34 = .ok (.iadd, 1) := dk_96 (dk_at dksX9_block_1 12 rfl rfl)
theorem dX9_block_35 : decode cX9_block 35 = .ok (.iload 4, 2) := dk_21 4 (dk_at dksX9_block_1 13 rfl rfl)
theorem dX9_block_37 : decode cX9_block 37 = .ok (.invokevirtual 162, 3) := dk_182 0 162 (dk_at dksX9_block_1 15 rfl rfl)
theorem dX9_block_40 : decode cX9_block 40 = .ok (.astore 6, 2) := dk_58 6 (dk_at dksX9_block_1 18 rfl rfl)
theorem dX9_block_42 : decode cX9_block 42 = .ok (.iconst 0, 1) := dk_3 (dk_at dksX9_block_1 20 rfl rfl)
theorem dX9_block_43 : decode cX9_block 43 = .ok (.anewarray 111, 3) := dk_189 0 111 (dk_at dksX9_block_1 21 rfl rfl)
theorem dX9_block_46 : decode cX9_block 46 = .ok (.astore 7, 2) := dk_58 7 (dk_at dksX9_block_2 0 rfl rfl)
theorem dX9_block_48 : decode cX9_block 48 = .ok (.aload_n 0, 1) := dk_42 (dk_at dksX9_block_2 2 rfl rfl)
theorem dX9_block_49 : decode cX9_block 49 = .ok (.getfield 63, 3) := dk_180 0 63 (dk_at dksX9_block_2 3 rfl rfl)
theorem dX9_block_52 : decode cX9_block 52 = .ok (.ldc 66, 2) := dk_18 66 (dk_at dksX9_block_2 6 rfl rfl)
theorem dX9_block_54 : decode cX9_block 54 = .ok (.invokevirtual 68, 3) := dk_182 0 68 (dk_at dksX9_block_2 8 rfl rfl)
theorem dX9_block_57 : decode cX9_block 57 = .ok (.ifCond .eq 14, 3) := dk_153 0 14 (dk_at dksX9_block_2 11 rfl rfl)
theorem dX9_block_60 : decode cX9_block 60 = .ok (.aload_n 0, 1) := dk_42 (dk_at dksX9_block_2 14 rfl rfl)
theorem dX9_block_61 : decode cX9_block 61 = .ok (.iload_n 3, 1) := dk_29 (dk_at dksX9_block_2 15 rfl rfl)
theorem dX9_block_62 : decode cX9_block 62 = .ok (.iconst 1, 1) := dk_4 (dk_at dksX9_block_2 16 rfl rfl)
theorem dX9_block_63 : decode cX9_block 63 = .ok (.iadd, 1) := dk_96 (dk_at dksX9_block_2 17 rfl rfl)
theorem dX9_block_64 : decode cX9_block 64 = .ok (.iload 4, 2) := dk_21 4 (dk_at dksX9_block_2 18 rfl rfl)
theorem dX9_block_66 : decode cX9_block 66 = .ok (.invokevirtual 162, 3) := dk_182 0 162 (dk_at dksX9_block_2 20 rfl rfl)
theorem dX9_block_69 : decode cX9_block 69 = .ok (.astore 7, 2) := dk_58 7 (dk_at dksX9_block_3 0 rfl rfl)
theorem dX9_block_71 : decode cX9_block 71 = .ok (.aload_n 0, 1) := dk_42 (dk_at dksX9_block_3 2 rfl rfl)
theorem dX9_block_72 : decode cX9_block 72 = .ok (.getfield 63, 3) := dk_180 0 63 (dk_at dksX9_block_3 3 rfl rfl)
theorem dX9_block_75 : decode cX9_block 75 = .ok (.new 166, 3) := dk_187 0 166 (dk_at dksX9_block_3 6 rfl rfl)
theorem dX9_block_78 : decode cX9_block 78 = .ok (.dup, 1) := dk_89 (dk_at dksX9_block_3 9 rfl rfl)
theorem dX9_block_79 : decode cX9_block 79 = .ok (.invokespecial 168, 3) := dk_183 0 168 (dk_at dksX9_block_3 10 rfl rfl)
theorem dX9_block_82 : decode cX9_block 82 = .ok (.ldc 169, 2) := dk_18 169 (dk_at dksX9_block_3 13 rfl rfl)
theorem dX9_block_84 : decode cX9_block 84 = .ok (.invokevirtual 171, 3) := dk_182 0 171 (dk_at dksX9_block_3 15 rfl rfl)
theorem dX9_block_87 : decode cX9_block 87 = .ok (.aload_n 1, 1) := dk_43 (dk_at dksX9_block_3 18 rfl rfl)
theorem dX9_block_88 : decode cX9_block 88 = .ok (.invokevirtual 171, 3) := dk_182 0 171 (dk_at dksX9_block_3 19 rfl rfl)
theorem dX9_block_91 : decode cX9_block 91 = .ok (.invokevirtual 175, 3) := dk_182 0 175 (dk_at dksX9_block_4 0 rfl rfl)
theorem dX9_block_94 : decode cX9_block 94 = .ok (.invokevirtual 68, 3) := dk_182 0 68 (dk_at dksX9_block_4 3 rfl rfl)
theorem dX9_block_97 : decode cX9_block 97 = .ok (.ifCond .ne 15, 3) := dk_154 0 15 (dk_at dksX9_block_4 6 rfl rfl)
theorem dX9_block_100 : decode cX9_block 100 = .ok (.aload_n 0, 1) := dk_42 (dk_at dksX9_block_4 9 rfl rfl)
theorem dX9_block_101 : decode cX9_block 101 = .ok (.getfield 7, 3) := dk_180 0 7 (dk_at dksX9_block_4 10 rfl rfl)
theorem dX9_block_104 : decode cX9_block 104 = .ok (.aload_n 0, 1) := dk_42 (dk_at dksX9_block_4 13 rfl rfl)
theorem dX9_block_105 : decode cX9_block 105 = .ok (.getfield 29, 3) := dk_180 0 29 (dk_at dksX9_block_4 14 rfl rfl)
theorem dX9_block_108 : decode cX9_block 108 = .ok (.invokestatic 56, 3) := dk_184 0 56 (dk_at dksX9_block_4 17 rfl rfl)
theorem dX9_block_111 : decode cX9_block 111 = .ok (.athrow, 1) := dk_191 (dk_at dksX9_block_4 20 rfl rfl)
theorem dX9_block_112 : decode cX9_block 112 = .ok (.new 178, 3) := dk_187 0 178 (dk_at dksX9_block_4 21 rfl rfl)
theorem dX9_block_115 : decode cX9_block 115 = .ok (.dup, 1) := dk_89 (dk_at dksX9_block_5 0 rfl rfl)
theorem dX9_block_116 : decode cX9_block 116 = .ok (.aload_n 1, 1) := dk_43 (dk_at dksX9_block_5 1 rfl rfl)
theorem dX9_block_117 : decode cX9_block 117 = .ok (.aload 5, 2) := dk_25 5 (dk_at dksX9_block_5 2 rfl rfl)
theorem dX9_block_119 : decode cX9_block 119 = .ok (.aload 6, 2) := dk_25 6 (dk_at dksX9_block_5 4 rfl rfl)
theorem dX9_block_121 : decode cX9_block 121 = .ok (.aload 7, 2) := dk_25 7 (dk_at dksX9_block_5 6 rfl rfl)
theorem dX9_block_123 : decode cX9_block 123 = .ok (.invokespecial 180, 3) := dk_183 0 180 (dk_at dksX9_block_5 8 rfl rfl)
theorem dX9_block_126 : decode cX9_block 126 = .ok (.areturn, 1) := dk_176 (dk_at dksX9_block_5 11 rfl rfl)
theorem q105 : (Jvm.Cond.initialized "TemplateEngine$Parser") ∈ lw_all := lw_g (lw_at lw_m1 34 rfl) rfl
theorem q666 : (Jvm.Cond.selects "TemplateEngine$Parser" ({ cls := "java/lang/Object", name := "getClass", desc := "()Ljava/lang/Class;" } : Jvm.MethodName) ({ cls := "java/lang/Object", name := "getClass", desc := "()Ljava/lang/Class;" } : Jvm.MethodName)) ∈ lw_all := lw_g (lw_at lw_m3 115 rfl) rfl
theorem q1010 : (Jvm.Cond.instantiable "TemplateEngine$Parser" (7 : Nat)) ∈ lw_all := lw_g (lw_at lw_m4 219 rfl) rfl
theorem q1012 : (Jvm.Cond.instanceMethod ({ cls := "TemplateEngine$Parser", name := "<init>", desc := "(LTemplateEngine;Ljava/lang/String;)V" } : Jvm.MethodName)) ∈ lw_all := lw_g (lw_at lw_m4 221 rfl) rfl
theorem q1013 : (Jvm.Cond.code ({ cls := "TemplateEngine$Parser", name := "<init>", desc := "(LTemplateEngine;Ljava/lang/String;)V" } : Jvm.MethodName) prog_13_method_1_code (3 : Nat) (Option.none : Option Jvm.ClassFile.FieldType)) ∈ lw_all := lw_g (lw_at lw_m4 222 rfl) rfl
theorem q1014 : (Jvm.Cond.methodLink "TemplateEngine$Parser" (1 : Nat) ({ cls := "java/lang/Object", name := "<init>", desc := "()V" } : Jvm.MethodName)) ∈ lw_all := lw_g (lw_at lw_m4 223 rfl) rfl
theorem q1015 : (Jvm.Cond.fieldLink "TemplateEngine$Parser" (7 : Nat) "TemplateEngine$Parser" "engine" "LTemplateEngine;") ∈ lw_all := lw_g (lw_at lw_m4 224 rfl) rfl
theorem q1016 : (Jvm.Cond.fieldLink "TemplateEngine$Parser" (13 : Nat) "TemplateEngine$Parser" "s" "Ljava/lang/String;") ∈ lw_all := lw_g (lw_at lw_m4 225 rfl) rfl
theorem q1017 : (Jvm.Cond.fieldLink "TemplateEngine$Parser" (19 : Nat) "TemplateEngine$Parser" "at" "I") ∈ lw_all := lw_g (lw_at lw_m4 226 rfl) rfl
theorem q1018 : (Jvm.Cond.fieldLink "TemplateEngine$Parser" (97 : Nat) "TemplateEngine$Parser" "tags" "I") ∈ lw_all := lw_g (lw_at lw_m4 227 rfl) rfl
theorem q1020 : (Jvm.Cond.fieldLink "TemplateEngine$Parser" (29 : Nat) "TemplateEngine$Parser" "place" "I") ∈ lw_all := lw_g (lw_at lw_m4 229 rfl) rfl
theorem q1021 : (Jvm.Cond.fieldLink "TemplateEngine$Parser" (48 : Nat) "TemplateEngine$Parser" "triple" "Z") ∈ lw_all := lw_g (lw_at lw_m4 230 rfl) rfl
theorem q1022 : (Jvm.Cond.fieldLink "TemplateEngine$Parser" (63 : Nat) "TemplateEngine$Parser" "inside" "Ljava/lang/String;") ∈ lw_all := lw_g (lw_at lw_m4 231 rfl) rfl
theorem q1023 : (Jvm.Cond.laysFinal "TemplateEngine$Parser" "TemplateEngine$Parser" "engine" "LTemplateEngine;") ∈ lw_all := lw_g (lw_at lw_m4 232 rfl) rfl
theorem q1024 : (Jvm.Cond.soleField "TemplateEngine$Parser" "engine") ∈ lw_all := lw_g (lw_at lw_m4 233 rfl) rfl
theorem q1025 : (Jvm.Cond.laysFinal "TemplateEngine$Parser" "TemplateEngine$Parser" "s" "Ljava/lang/String;") ∈ lw_all := lw_g (lw_at lw_m4 234 rfl) rfl
theorem q1026 : (Jvm.Cond.soleField "TemplateEngine$Parser" "s") ∈ lw_all := lw_g (lw_at lw_m4 235 rfl) rfl
theorem q1027 : (Jvm.Cond.lays "TemplateEngine$Parser" "TemplateEngine$Parser" "at" "I") ∈ lw_all := lw_g (lw_at lw_m4 236 rfl) rfl
theorem q1028 : (Jvm.Cond.soleField "TemplateEngine$Parser" "at") ∈ lw_all := lw_g (lw_at lw_m4 237 rfl) rfl
theorem q1029 : (Jvm.Cond.lays "TemplateEngine$Parser" "TemplateEngine$Parser" "tags" "I") ∈ lw_all := lw_g (lw_at lw_m4 238 rfl) rfl
theorem q1030 : (Jvm.Cond.soleField "TemplateEngine$Parser" "tags") ∈ lw_all := lw_g (lw_at lw_m4 239 rfl) rfl
theorem q1031 : (Jvm.Cond.lays "TemplateEngine$Parser" "TemplateEngine$Parser" "place" "I") ∈ lw_all := lw_g (lw_at lw_m5 0 rfl) rfl
theorem q1032 : (Jvm.Cond.soleField "TemplateEngine$Parser" "place") ∈ lw_all := lw_g (lw_at lw_m5 1 rfl) rfl
theorem q1033 : (Jvm.Cond.lays "TemplateEngine$Parser" "TemplateEngine$Parser" "triple" "Z") ∈ lw_all := lw_g (lw_at lw_m5 2 rfl) rfl
theorem q1034 : (Jvm.Cond.soleField "TemplateEngine$Parser" "triple") ∈ lw_all := lw_g (lw_at lw_m5 3 rfl) rfl
theorem q1035 : (Jvm.Cond.lays "TemplateEngine$Parser" "TemplateEngine$Parser" "inside" "Ljava/lang/String;") ∈ lw_all := lw_g (lw_at lw_m5 4 rfl) rfl
theorem q1036 : (Jvm.Cond.soleField "TemplateEngine$Parser" "inside") ∈ lw_all := lw_g (lw_at lw_m5 5 rfl) rfl
theorem q1037 : (Jvm.Cond.superclass "TemplateEngine$Parser" "java/lang/Object") ∈ lw_all := lw_g (lw_at lw_m5 6 rfl) rfl
theorem q1039 : (Jvm.Cond.instanceMethod ({ cls := "TemplateEngine$Parser", name := "parts", desc := "(II)[LTemplateEngine$Part;" } : Jvm.MethodName)) ∈ lw_all := lw_g (lw_at lw_m5 8 rfl) rfl
theorem q1040 : (Jvm.Cond.selects "TemplateEngine$Parser" ({ cls := "TemplateEngine$Parser", name := "parts", desc := "(II)[LTemplateEngine$Part;" } : Jvm.MethodName) ({ cls := "TemplateEngine$Parser", name := "parts", desc := "(II)[LTemplateEngine$Part;" } : Jvm.MethodName)) ∈ lw_all := lw_g (lw_at lw_m5 9 rfl) rfl
theorem q1041 : (Jvm.Cond.code ({ cls := "TemplateEngine$Parser", name := "parts", desc := "(II)[LTemplateEngine$Part;" } : Jvm.MethodName) prog_13_method_5_code (6 : Nat) (Option.some (Jvm.ClassFile.FieldType.array (Jvm.ClassFile.FieldType.object "TemplateEngine$Part")))) ∈ lw_all := lw_g (lw_at lw_m5 10 rfl) rfl
theorem q1042 : (Jvm.Cond.classLink "TemplateEngine$Parser" (78 : Nat) "java/util/ArrayList") ∈ lw_all := lw_g (lw_at lw_m5 11 rfl) rfl
theorem q1043 : (Jvm.Cond.methodLink "TemplateEngine$Parser" (80 : Nat) ({ cls := "java/util/ArrayList", name := "<init>", desc := "()V" } : Jvm.MethodName)) ∈ lw_all := lw_g (lw_at lw_m5 12 rfl) rfl
theorem q1046 : (Jvm.Cond.methodLink "TemplateEngine$Parser" (81 : Nat) ({ cls := "TemplateEngine$Parser", name := "toTag", desc := "()Ljava/lang/String;" } : Jvm.MethodName)) ∈ lw_all := lw_g (lw_at lw_m5 15 rfl) rfl
theorem q1047 : (Jvm.Cond.privateMethod ({ cls := "TemplateEngine$Parser", name := "toTag", desc := "()Ljava/lang/String;" } : Jvm.MethodName)) ∈ lw_tbl := lw_at lw_m5 16 rfl
theorem q1048 : (Jvm.Cond.instanceMethod ({ cls := "TemplateEngine$Parser", name := "toTag", desc := "()Ljava/lang/String;" } : Jvm.MethodName)) ∈ lw_all := lw_g (lw_at lw_m5 17 rfl) rfl
theorem q1049 : (Jvm.Cond.code ({ cls := "TemplateEngine$Parser", name := "toTag", desc := "()Ljava/lang/String;" } : Jvm.MethodName) prog_13_method_2_code (5 : Nat) (Option.some (Jvm.ClassFile.FieldType.object "java/lang/String"))) ∈ lw_all := lw_g (lw_at lw_m5 18 rfl) rfl
theorem q1050 : (Jvm.Cond.stringRef "TemplateEngine$Parser" (17 : Nat) "{{") ∈ lw_tbl := lw_at lw_m5 19 rfl
theorem q1051 : (Jvm.Cond.methodLink "TemplateEngine$Parser" (23 : Nat) ({ cls := "java/lang/String", name := "indexOf", desc := "(Ljava/lang/String;I)I" } : Jvm.MethodName)) ∈ lw_all := lw_g (lw_at lw_m5 20 rfl) rfl
theorem q1091 : (Jvm.Cond.methodLink "TemplateEngine$Parser" (32 : Nat) ({ cls := "java/lang/String", name := "substring", desc := "(I)Ljava/lang/String;" } : Jvm.MethodName)) ∈ lw_all := lw_g (lw_at lw_m5 60 rfl) rfl
theorem q1118 : (Jvm.Cond.methodLink "TemplateEngine$Parser" (36 : Nat) ({ cls := "java/lang/String", name := "length", desc := "()I" } : Jvm.MethodName)) ∈ lw_all := lw_g (lw_at lw_m5 87 rfl) rfl
theorem q1119 : (Jvm.Cond.stringRef "TemplateEngine$Parser" (40 : Nat) "{{{") ∈ lw_tbl := lw_at lw_m5 88 rfl
theorem q1120 : (Jvm.Cond.methodLinkNest "TemplateEngine$Parser" (42 : Nat) ({ cls := "TemplateEngine", name := "starts", desc := "(Ljava/lang/String;Ljava/lang/String;I)Z" } : Jvm.MethodName) "TemplateEngine") ∈ lw_tbl := lw_at lw_m5 89 rfl
theorem q1123 : (Jvm.Cond.stringRef "TemplateEngine$Parser" (52 : Nat) "}}}") ∈ lw_tbl := lw_at lw_m5 92 rfl
theorem q1124 : (Jvm.Cond.stringRef "TemplateEngine$Parser" (54 : Nat) "}}") ∈ lw_tbl := lw_at lw_m5 93 rfl
theorem q1125 : (Jvm.Cond.methodLinkNest "TemplateEngine$Parser" (56 : Nat) ({ cls := "TemplateEngine", name := "faultAt", desc := "(LTemplateEngine;I)Ljava/lang/IllegalArgumentException;" } : Jvm.MethodName) "TemplateEngine") ∈ lw_tbl := lw_at lw_m5 94 rfl
theorem q1128 : (Jvm.Cond.methodLink "TemplateEngine$Parser" (60 : Nat) ({ cls := "java/lang/String", name := "substring", desc := "(II)Ljava/lang/String;" } : Jvm.MethodName)) ∈ lw_all := lw_g (lw_at lw_m5 97 rfl) rfl
theorem q1129 : (Jvm.Cond.methodLink "TemplateEngine$Parser" (85 : Nat) ({ cls := "java/lang/String", name := "isEmpty", desc := "()Z" } : Jvm.MethodName)) ∈ lw_all := lw_g (lw_at lw_m5 98 rfl) rfl
theorem q1130 : (Jvm.Cond.classLink "TemplateEngine$Parser" (89 : Nat) "TemplateEngine$Plain") ∈ lw_all := lw_g (lw_at lw_m5 99 rfl) rfl
theorem q1132 : (Jvm.Cond.methodLinkNest "TemplateEngine$Parser" (91 : Nat) ({ cls := "TemplateEngine$Plain", name := "<init>", desc := "(Ljava/lang/String;)V" } : Jvm.MethodName) "TemplateEngine") ∈ lw_tbl := lw_at lw_m5 101 rfl
theorem q1143 : (Jvm.Cond.methodLink "TemplateEngine$Parser" (94 : Nat) ({ cls := "java/util/ArrayList", name := "add", desc := "(Ljava/lang/Object;)Z" } : Jvm.MethodName)) ∈ lw_all := lw_g (lw_at lw_m5 112 rfl) rfl
theorem q1144 : (Jvm.Cond.methodLink "TemplateEngine$Parser" (100 : Nat) ({ cls := "TemplateEngine$Parser", name := "isEnd", desc := "(Ljava/lang/String;)Z" } : Jvm.MethodName)) ∈ lw_all := lw_g (lw_at lw_m5 113 rfl) rfl
theorem q1145 : (Jvm.Cond.static ({ cls := "TemplateEngine$Parser", name := "isEnd", desc := "(Ljava/lang/String;)Z" } : Jvm.MethodName)) ∈ lw_all := lw_g (lw_at lw_m5 114 rfl) rfl
theorem q1146 : (Jvm.Cond.code ({ cls := "TemplateEngine$Parser", name := "isEnd", desc := "(Ljava/lang/String;)Z" } : Jvm.MethodName) prog_13_method_4_code (1 : Nat) (Option.some Jvm.ClassFile.FieldType.boolean)) ∈ lw_all := lw_g (lw_at lw_m5 115 rfl) rfl
theorem q1147 : (Jvm.Cond.stringRef "TemplateEngine$Parser" (66 : Nat) "else") ∈ lw_tbl := lw_at lw_m5 116 rfl
theorem q1148 : (Jvm.Cond.methodLink "TemplateEngine$Parser" (68 : Nat) ({ cls := "java/lang/String", name := "equals", desc := "(Ljava/lang/Object;)Z" } : Jvm.MethodName)) ∈ lw_all := lw_g (lw_at lw_m5 117 rfl) rfl
theorem q1149 : (Jvm.Cond.stringRef "TemplateEngine$Parser" (72 : Nat) "/if") ∈ lw_tbl := lw_at lw_m5 118 rfl
theorem q1150 : (Jvm.Cond.stringRef "TemplateEngine$Parser" (74 : Nat) "/each") ∈ lw_tbl := lw_at lw_m5 119 rfl
theorem q1151 : (Jvm.Cond.stringRef "TemplateEngine$Parser" (76 : Nat) "/with") ∈ lw_tbl := lw_at lw_m5 120 rfl
theorem q1152 : (Jvm.Cond.methodLink "TemplateEngine$Parser" (104 : Nat) ({ cls := "TemplateEngine$Parser", name := "part", desc := "(I)LTemplateEngine$Part;" } : Jvm.MethodName)) ∈ lw_all := lw_g (lw_at lw_m5 121 rfl) rfl
theorem q1153 : (Jvm.Cond.privateMethod ({ cls := "TemplateEngine$Parser", name := "part", desc := "(I)LTemplateEngine$Part;" } : Jvm.MethodName)) ∈ lw_tbl := lw_at lw_m5 122 rfl
theorem q1154 : (Jvm.Cond.instanceMethod ({ cls := "TemplateEngine$Parser", name := "part", desc := "(I)LTemplateEngine$Part;" } : Jvm.MethodName)) ∈ lw_all := lw_g (lw_at lw_m5 123 rfl) rfl
theorem q1155 : (Jvm.Cond.code ({ cls := "TemplateEngine$Parser", name := "part", desc := "(I)LTemplateEngine$Part;" } : Jvm.MethodName) prog_13_method_6_code (3 : Nat) (Option.some (Jvm.ClassFile.FieldType.object "TemplateEngine$Part"))) ∈ lw_all := lw_g (lw_at lw_m5 124 rfl) rfl
theorem q1156 : (Jvm.Cond.classLink "TemplateEngine$Parser" (117 : Nat) "TemplateEngine$Shown") ∈ lw_all := lw_g (lw_at lw_m5 125 rfl) rfl
theorem q1158 : (Jvm.Cond.methodLink "TemplateEngine$Parser" (119 : Nat) ({ cls := "TemplateEngine$Parser", name := "expression", desc := "(Ljava/lang/String;)LTemplateEngine$Operand;" } : Jvm.MethodName)) ∈ lw_all := lw_g (lw_at lw_m5 127 rfl) rfl
theorem q1159 : (Jvm.Cond.static ({ cls := "TemplateEngine$Parser", name := "expression", desc := "(Ljava/lang/String;)LTemplateEngine$Operand;" } : Jvm.MethodName)) ∈ lw_all := lw_g (lw_at lw_m5 128 rfl) rfl
theorem q1160 : (Jvm.Cond.code ({ cls := "TemplateEngine$Parser", name := "expression", desc := "(Ljava/lang/String;)LTemplateEngine$Operand;" } : Jvm.MethodName) prog_13_method_10_code (8 : Nat) (Option.some (Jvm.ClassFile.FieldType.object "TemplateEngine$Operand"))) ∈ lw_all := lw_g (lw_at lw_m5 129 rfl) rfl
theorem q1161 : (Jvm.Cond.methodLink "TemplateEngine$Parser" (200 : Nat) ({ cls := "TemplateEngine$Parser", name := "operandEnd", desc := "(Ljava/lang/String;I)I" } : Jvm.MethodName)) ∈ lw_all := lw_g (lw_at lw_m5 130 rfl) rfl
theorem q1162 : (Jvm.Cond.static ({ cls := "TemplateEngine$Parser", name := "operandEnd", desc := "(Ljava/lang/String;I)I" } : Jvm.MethodName)) ∈ lw_all := lw_g (lw_at lw_m5 131 rfl) rfl
theorem q1163 : (Jvm.Cond.code ({ cls := "TemplateEngine$Parser", name := "operandEnd", desc := "(Ljava/lang/String;I)I" } : Jvm.MethodName) prog_13_method_8_code (3 : Nat) (Option.some Jvm.ClassFile.FieldType.int)) ∈ lw_all := lw_g (lw_at lw_m5 132 rfl) rfl
theorem q1164 : (Jvm.Cond.methodLink "TemplateEngine$Parser" (153 : Nat) ({ cls := "java/lang/String", name := "charAt", desc := "(I)C" } : Jvm.MethodName)) ∈ lw_all := lw_g (lw_at lw_m5 133 rfl) rfl
theorem q1165 : (Jvm.Cond.stringRef "TemplateEngine$Parser" (183 : Nat) "\"") ∈ lw_tbl := lw_at lw_m5 134 rfl
theorem q1166 : (Jvm.Cond.stringRef "TemplateEngine$Parser" (185 : Nat) " ") ∈ lw_tbl := lw_at lw_m5 135 rfl
theorem q1167 : (Jvm.Cond.methodLink "TemplateEngine$Parser" (203 : Nat) ({ cls := "TemplateEngine$Parser", name := "operand", desc := "(Ljava/lang/String;)LTemplateEngine$Operand;" } : Jvm.MethodName)) ∈ lw_all := lw_g (lw_at lw_m5 136 rfl) rfl
theorem q1168 : (Jvm.Cond.static ({ cls := "TemplateEngine$Parser", name := "operand", desc := "(Ljava/lang/String;)LTemplateEngine$Operand;" } : Jvm.MethodName)) ∈ lw_all := lw_g (lw_at lw_m5 137 rfl) rfl
theorem q1169 : (Jvm.Cond.code ({ cls := "TemplateEngine$Parser", name := "operand", desc := "(Ljava/lang/String;)LTemplateEngine$Operand;" } : Jvm.MethodName) prog_13_method_11_code (1 : Nat) (Option.some (Jvm.ClassFile.FieldType.object "TemplateEngine$Operand"))) ∈ lw_all := lw_g (lw_at lw_m5 138 rfl) rfl
theorem q1170 : (Jvm.Cond.stringRef "TemplateEngine$Parser" (215 : Nat) "@index") ∈ lw_tbl := lw_at lw_m5 139 rfl
theorem q1171 : (Jvm.Cond.classLink "TemplateEngine$Parser" (217 : Nat) "TemplateEngine$Turn") ∈ lw_all := lw_g (lw_at lw_m5 140 rfl) rfl
theorem q1173 : (Jvm.Cond.methodLinkNest "TemplateEngine$Parser" (219 : Nat) ({ cls := "TemplateEngine$Turn", name := "<init>", desc := "(Z)V" } : Jvm.MethodName) "TemplateEngine") ∈ lw_tbl := lw_at lw_m5 142 rfl
theorem q1181 : (Jvm.Cond.stringRef "TemplateEngine$Parser" (222 : Nat) "@first") ∈ lw_tbl := lw_at lw_m5 150 rfl
theorem q1182 : (Jvm.Cond.methodLink "TemplateEngine$Parser" (224 : Nat) ({ cls := "TemplateEngine$Parser", name := "quoted", desc := "(Ljava/lang/String;)LTemplateEngine$Operand;" } : Jvm.MethodName)) ∈ lw_all := lw_g (lw_at lw_m5 151 rfl) rfl
theorem q1183 : (Jvm.Cond.static ({ cls := "TemplateEngine$Parser", name := "quoted", desc := "(Ljava/lang/String;)LTemplateEngine$Operand;" } : Jvm.MethodName)) ∈ lw_all := lw_g (lw_at lw_m5 152 rfl) rfl
theorem q1184 : (Jvm.Cond.code ({ cls := "TemplateEngine$Parser", name := "quoted", desc := "(Ljava/lang/String;)LTemplateEngine$Operand;" } : Jvm.MethodName) prog_13_method_12_code (2 : Nat) (Option.some (Jvm.ClassFile.FieldType.object "TemplateEngine$Operand"))) ∈ lw_all := lw_g (lw_at lw_m5 153 rfl) rfl
theorem q1185 : (Jvm.Cond.stringRef "TemplateEngine$Parser" (233 : Nat) "}") ∈ lw_tbl := lw_at lw_m5 154 rfl
theorem q1186 : (Jvm.Cond.methodLink "TemplateEngine$Parser" (235 : Nat) ({ cls := "java/lang/String", name := "indexOf", desc := "(Ljava/lang/String;)I" } : Jvm.MethodName)) ∈ lw_all := lw_g (lw_at lw_m5 155 rfl) rfl
theorem q1200 : (Jvm.Cond.classLink "TemplateEngine$Parser" (237 : Nat) "TemplateEngine$Fixed") ∈ lw_all := lw_g (lw_at lw_m5 169 rfl) rfl
theorem q1202 : (Jvm.Cond.classLink "TemplateEngine$Parser" (239 : Nat) "TemplateEngine$TextData") ∈ lw_all := lw_g (lw_at lw_m5 171 rfl) rfl
theorem q1203 : (Jvm.Cond.methodLink "TemplateEngine$Parser" (241 : Nat) ({ cls := "TemplateEngine$TextData", name := "<init>", desc := "(Ljava/lang/String;)V" } : Jvm.MethodName)) ∈ lw_all := lw_g (lw_at lw_m5 172 rfl) rfl
theorem q1204 : (Jvm.Cond.methodLinkNest "TemplateEngine$Parser" (242 : Nat) ({ cls := "TemplateEngine$Fixed", name := "<init>", desc := "(LTemplateEngine$Data;)V" } : Jvm.MethodName) "TemplateEngine") ∈ lw_tbl := lw_at lw_m5 173 rfl
theorem q1212 : (Jvm.Cond.methodLink "TemplateEngine$Parser" (227 : Nat) ({ cls := "TemplateEngine$Parser", name := "numeral", desc := "(Ljava/lang/String;)LTemplateEngine$Operand;" } : Jvm.MethodName)) ∈ lw_all := lw_g (lw_at lw_m5 181 rfl) rfl
theorem q1213 : (Jvm.Cond.static ({ cls := "TemplateEngine$Parser", name := "numeral", desc := "(Ljava/lang/String;)LTemplateEngine$Operand;" } : Jvm.MethodName)) ∈ lw_all := lw_g (lw_at lw_m5 182 rfl) rfl
theorem q1214 : (Jvm.Cond.code ({ cls := "TemplateEngine$Parser", name := "numeral", desc := "(Ljava/lang/String;)LTemplateEngine$Operand;" } : Jvm.MethodName) prog_13_method_13_code (4 : Nat) (Option.some (Jvm.ClassFile.FieldType.object "TemplateEngine$Operand"))) ∈ lw_all := lw_g (lw_at lw_m5 183 rfl) rfl
theorem q1215 : (Jvm.Cond.classLink "TemplateEngine$Parser" (245 : Nat) "TemplateEngine$NumberData") ∈ lw_all := lw_g (lw_at lw_m5 184 rfl) rfl
theorem q1216 : (Jvm.Cond.methodLink "TemplateEngine$Parser" (247 : Nat) ({ cls := "TemplateEngine$NumberData", name := "<init>", desc := "(I)V" } : Jvm.MethodName)) ∈ lw_all := lw_g (lw_at lw_m5 185 rfl) rfl
theorem q1217 : (Jvm.Cond.methodLink "TemplateEngine$Parser" (230 : Nat) ({ cls := "TemplateEngine$Parser", name := "path", desc := "(Ljava/lang/String;)LTemplateEngine$Operand;" } : Jvm.MethodName)) ∈ lw_all := lw_g (lw_at lw_m5 186 rfl) rfl
theorem q1218 : (Jvm.Cond.static ({ cls := "TemplateEngine$Parser", name := "path", desc := "(Ljava/lang/String;)LTemplateEngine$Operand;" } : Jvm.MethodName)) ∈ lw_all := lw_g (lw_at lw_m5 187 rfl) rfl
theorem q1219 : (Jvm.Cond.code ({ cls := "TemplateEngine$Parser", name := "path", desc := "(Ljava/lang/String;)LTemplateEngine$Operand;" } : Jvm.MethodName) prog_13_method_14_code (10 : Nat) (Option.some (Jvm.ClassFile.FieldType.object "TemplateEngine$Operand"))) ∈ lw_all := lw_g (lw_at lw_m5 188 rfl) rfl
theorem q1220 : (Jvm.Cond.stringRef "TemplateEngine$Parser" (248 : Nat) "../") ∈ lw_tbl := lw_at lw_m5 189 rfl
theorem q1221 : (Jvm.Cond.stringRef "TemplateEngine$Parser" (250 : Nat) "this") ∈ lw_tbl := lw_at lw_m5 190 rfl
theorem q1222 : (Jvm.Cond.classLink "TemplateEngine$Parser" (252 : Nat) "TemplateEngine$Path") ∈ lw_all := lw_g (lw_at lw_m5 191 rfl) rfl
theorem q1224 : (Jvm.Cond.classLink "TemplateEngine$Parser" (24 : Nat) "java/lang/String") ∈ lw_all := lw_g (lw_at lw_m5 193 rfl) rfl
theorem q1225 : (Jvm.Cond.methodLinkNest "TemplateEngine$Parser" (254 : Nat) ({ cls := "TemplateEngine$Path", name := "<init>", desc := "(I[Ljava/lang/String;)V" } : Jvm.MethodName) "TemplateEngine") ∈ lw_tbl := lw_at lw_m5 194 rfl
theorem q1236 : (Jvm.Cond.stringRef "TemplateEngine$Parser" (257 : Nat) ".") ∈ lw_tbl := lw_at lw_m5 205 rfl
theorem q1237 : (Jvm.Cond.methodLinkNest "TemplateEngine$Parser" (259 : Nat) ({ cls := "TemplateEngine", name := "isName", desc := "(Ljava/lang/String;)Z" } : Jvm.MethodName) "TemplateEngine") ∈ lw_tbl := lw_at lw_m5 206 rfl
theorem q1238 : (Jvm.Cond.methodLink "TemplateEngine$Parser" (108 : Nat) ({ cls := "java/util/ArrayList", name := "size", desc := "()I" } : Jvm.MethodName)) ∈ lw_all := lw_g (lw_at lw_m5 207 rfl) rfl
theorem q1239 : (Jvm.Cond.methodLink "TemplateEngine$Parser" (113 : Nat) ({ cls := "java/util/ArrayList", name := "get", desc := "(I)Ljava/lang/Object;" } : Jvm.MethodName)) ∈ lw_all := lw_g (lw_at lw_m5 208 rfl) rfl
theorem q1240 : (Jvm.Cond.methodLink "TemplateEngine$Parser" (206 : Nat) ({ cls := "TemplateEngine$Parser", name := "operands", desc := "(Ljava/lang/String;)I" } : Jvm.MethodName)) ∈ lw_all := lw_g (lw_at lw_m5 209 rfl) rfl
theorem q1241 : (Jvm.Cond.static ({ cls := "TemplateEngine$Parser", name := "operands", desc := "(Ljava/lang/String;)I" } : Jvm.MethodName)) ∈ lw_all := lw_g (lw_at lw_m5 210 rfl) rfl
theorem q1242 : (Jvm.Cond.code ({ cls := "TemplateEngine$Parser", name := "operands", desc := "(Ljava/lang/String;)I" } : Jvm.MethodName) prog_13_method_9_code (3 : Nat) (Option.some Jvm.ClassFile.FieldType.int)) ∈ lw_all := lw_g (lw_at lw_m5 211 rfl) rfl
theorem q1243 : (Jvm.Cond.methodLink "TemplateEngine$Parser" (187 : Nat) ({ cls := "java/lang/String", name := "hashCode", desc := "()I" } : Jvm.MethodName)) ∈ lw_all := lw_g (lw_at lw_m5 212 rfl) rfl
theorem q1300 : (Jvm.Cond.stringRef "TemplateEngine$Parser" (190 : Nat) "up") ∈ lw_tbl := lw_at lw_m6 29 rfl
theorem q1301 : (Jvm.Cond.stringRef "TemplateEngine$Parser" (192 : Nat) "len") ∈ lw_tbl := lw_at lw_m6 30 rfl
theorem q1302 : (Jvm.Cond.stringRef "TemplateEngine$Parser" (194 : Nat) "not") ∈ lw_tbl := lw_at lw_m6 31 rfl
theorem q1303 : (Jvm.Cond.stringRef "TemplateEngine$Parser" (196 : Nat) "add") ∈ lw_tbl := lw_at lw_m6 32 rfl
theorem q1304 : (Jvm.Cond.stringRef "TemplateEngine$Parser" (197 : Nat) "eq") ∈ lw_tbl := lw_at lw_m6 33 rfl
theorem q1305 : (Jvm.Cond.stringRef "TemplateEngine$Parser" (199 : Nat) "at") ∈ lw_tbl := lw_at lw_m6 34 rfl
theorem q1306 : (Jvm.Cond.classLink "TemplateEngine$Parser" (210 : Nat) "TemplateEngine$Help") ∈ lw_all := lw_g (lw_at lw_m6 35 rfl) rfl
theorem q1308 : (Jvm.Cond.methodLinkNest "TemplateEngine$Parser" (212 : Nat) ({ cls := "TemplateEngine$Help", name := "<init>", desc := "(Ljava/lang/String;LTemplateEngine$Operand;LTemplateEngine$Operand;)V" } : Jvm.MethodName) "TemplateEngine") ∈ lw_tbl := lw_at lw_m6 37 rfl
theorem q1322 : (Jvm.Cond.methodLink "TemplateEngine$Parser" (123 : Nat) ({ cls := "TemplateEngine$Parser", name := "need", desc := "(LTemplateEngine$Operand;)LTemplateEngine$Operand;" } : Jvm.MethodName)) ∈ lw_all := lw_g (lw_at lw_m6 51 rfl) rfl
theorem q1323 : (Jvm.Cond.privateMethod ({ cls := "TemplateEngine$Parser", name := "need", desc := "(LTemplateEngine$Operand;)LTemplateEngine$Operand;" } : Jvm.MethodName)) ∈ lw_tbl := lw_at lw_m6 52 rfl
theorem q1324 : (Jvm.Cond.instanceMethod ({ cls := "TemplateEngine$Parser", name := "need", desc := "(LTemplateEngine$Operand;)LTemplateEngine$Operand;" } : Jvm.MethodName)) ∈ lw_all := lw_g (lw_at lw_m6 53 rfl) rfl
theorem q1325 : (Jvm.Cond.code ({ cls := "TemplateEngine$Parser", name := "need", desc := "(LTemplateEngine$Operand;)LTemplateEngine$Operand;" } : Jvm.MethodName) prog_13_method_3_code (2 : Nat) (Option.some (Jvm.ClassFile.FieldType.object "TemplateEngine$Operand"))) ∈ lw_all := lw_g (lw_at lw_m6 54 rfl) rfl
theorem q1326 : (Jvm.Cond.methodLinkNest "TemplateEngine$Parser" (127 : Nat) ({ cls := "TemplateEngine$Shown", name := "<init>", desc := "(LTemplateEngine$Operand;Z)V" } : Jvm.MethodName) "TemplateEngine") ∈ lw_tbl := lw_at lw_m6 55 rfl
theorem q1337 : (Jvm.Cond.stringRef "TemplateEngine$Parser" (130 : Nat) "!") ∈ lw_tbl := lw_at lw_m6 66 rfl
theorem q1338 : (Jvm.Cond.classLink "TemplateEngine$Parser" (132 : Nat) "TemplateEngine$Remark") ∈ lw_all := lw_g (lw_at lw_m6 67 rfl) rfl
theorem q1340 : (Jvm.Cond.methodLinkNest "TemplateEngine$Parser" (134 : Nat) ({ cls := "TemplateEngine$Remark", name := "<init>", desc := "()V" } : Jvm.MethodName) "TemplateEngine") ∈ lw_tbl := lw_at lw_m6 69 rfl
theorem q1345 : (Jvm.Cond.stringRef "TemplateEngine$Parser" (135 : Nat) "#if ") ∈ lw_tbl := lw_at lw_m6 74 rfl
theorem q1346 : (Jvm.Cond.stringRef "TemplateEngine$Parser" (137 : Nat) "if") ∈ lw_tbl := lw_at lw_m6 75 rfl
theorem q1347 : (Jvm.Cond.methodLink "TemplateEngine$Parser" (139 : Nat) ({ cls := "TemplateEngine$Parser", name := "block", desc := "(Ljava/lang/String;Ljava/lang/String;I)LTemplateEngine$Part;" } : Jvm.MethodName)) ∈ lw_all := lw_g (lw_at lw_m6 76 rfl) rfl
theorem q1348 : (Jvm.Cond.privateMethod ({ cls := "TemplateEngine$Parser", name := "block", desc := "(Ljava/lang/String;Ljava/lang/String;I)LTemplateEngine$Part;" } : Jvm.MethodName)) ∈ lw_tbl := lw_at lw_m6 77 rfl
theorem q1349 : (Jvm.Cond.instanceMethod ({ cls := "TemplateEngine$Parser", name := "block", desc := "(Ljava/lang/String;Ljava/lang/String;I)LTemplateEngine$Part;" } : Jvm.MethodName)) ∈ lw_all := lw_g (lw_at lw_m6 78 rfl) rfl
theorem q1350 : (Jvm.Cond.code ({ cls := "TemplateEngine$Parser", name := "block", desc := "(Ljava/lang/String;Ljava/lang/String;I)LTemplateEngine$Part;" } : Jvm.MethodName) prog_13_method_7_code (8 : Nat) (Option.some (Jvm.ClassFile.FieldType.object "TemplateEngine$Part"))) ∈ lw_all := lw_g (lw_at lw_m6 79 rfl) rfl
theorem q1351 : (Jvm.Cond.methodLink "TemplateEngine$Parser" (162 : Nat) ({ cls := "TemplateEngine$Parser", name := "parts", desc := "(II)[LTemplateEngine$Part;" } : Jvm.MethodName)) ∈ lw_all := lw_g (lw_at lw_m6 80 rfl) rfl
theorem q1352 : (Jvm.Cond.classLink "TemplateEngine$Parser" (111 : Nat) "TemplateEngine$Part") ∈ lw_all := lw_g (lw_at lw_m6 81 rfl) rfl
theorem q1353 : (Jvm.Cond.classLink "TemplateEngine$Parser" (166 : Nat) "java/lang/StringBuilder") ∈ lw_all := lw_g (lw_at lw_m6 82 rfl) rfl
theorem q1354 : (Jvm.Cond.methodLink "TemplateEngine$Parser" (168 : Nat) ({ cls := "java/lang/StringBuilder", name := "<init>", desc := "()V" } : Jvm.MethodName)) ∈ lw_all := lw_g (lw_at lw_m6 83 rfl) rfl
theorem q1355 : (Jvm.Cond.stringRef "TemplateEngine$Parser" (169 : Nat) "/") ∈ lw_tbl := lw_at lw_m6 84 rfl
theorem q1356 : (Jvm.Cond.methodLink "TemplateEngine$Parser" (171 : Nat) ({ cls := "java/lang/StringBuilder", name := "append", desc := "(Ljava/lang/String;)Ljava/lang/StringBuilder;" } : Jvm.MethodName)) ∈ lw_all := lw_g (lw_at lw_m6 85 rfl) rfl
theorem q1357 : (Jvm.Cond.methodLink "TemplateEngine$Parser" (175 : Nat) ({ cls := "java/lang/StringBuilder", name := "toString", desc := "()Ljava/lang/String;" } : Jvm.MethodName)) ∈ lw_all := lw_g (lw_at lw_m6 86 rfl) rfl
theorem q1358 : (Jvm.Cond.classLink "TemplateEngine$Parser" (178 : Nat) "TemplateEngine$Block") ∈ lw_all := lw_g (lw_at lw_m6 87 rfl) rfl
theorem q1360 : (Jvm.Cond.methodLinkNest "TemplateEngine$Parser" (180 : Nat) ({ cls := "TemplateEngine$Block", name := "<init>", desc := "(Ljava/lang/String;LTemplateEngine$Operand;[LTemplateEngine$Part;[LTemplateEngine$Part;)V" } : Jvm.MethodName) "TemplateEngine") ∈ lw_tbl := lw_at lw_m6 89 rfl
theorem q1377 : (Jvm.Cond.stringRef "TemplateEngine$Parser" (143 : Nat) "#each ") ∈ lw_tbl := lw_at lw_m6 106 rfl
theorem q1378 : (Jvm.Cond.stringRef "TemplateEngine$Parser" (145 : Nat) "each") ∈ lw_tbl := lw_at lw_m6 107 rfl
theorem q1379 : (Jvm.Cond.stringRef "TemplateEngine$Parser" (147 : Nat) "#with ") ∈ lw_tbl := lw_at lw_m6 108 rfl
theorem q1380 : (Jvm.Cond.stringRef "TemplateEngine$Parser" (149 : Nat) "with") ∈ lw_tbl := lw_at lw_m6 109 rfl
theorem q1381 : (Jvm.Cond.stringRef "TemplateEngine$Parser" (151 : Nat) "> ") ∈ lw_tbl := lw_at lw_m6 110 rfl
theorem q1382 : (Jvm.Cond.classLink "TemplateEngine$Parser" (157 : Nat) "TemplateEngine$Partial") ∈ lw_all := lw_g (lw_at lw_m6 111 rfl) rfl
theorem q1384 : (Jvm.Cond.methodLinkNest "TemplateEngine$Parser" (159 : Nat) ({ cls := "TemplateEngine$Partial", name := "<init>", desc := "(I)V" } : Jvm.MethodName) "TemplateEngine") ∈ lw_tbl := lw_at lw_m6 113 rfl
theorem q2302 : (Jvm.Cond.castable "TemplateEngine$Parser" "java/lang/Object") ∈ lw_tbl := lw_at lw_m10 71 rfl
theorem in_X9 : ∀ w ∈ wsX90, w ∈ lw_all := lw_in wsX90 [1023, 1025, 1027, 1029, 1031, 1033, 1035] (by decide +kernel) (by decide +kernel)

/-! TemplateEngine$Plain -/
set_option maxRecDepth 100000
def RX10 : String := "TemplateEngine$Plain"
def TX10 : u_T := fun k => match k with
  | _ => ("TemplateEngine$Plain", "text", "Ljava/lang/String;", true)
def tyX10 : Nat → FieldType := fun k => match k with
  | _ => .object "java/lang/String"
abbrev wsX100 : List Cond := u_ws RX10 TX10 1
theorem nmX10 : ∀ a, a < 1 → ∀ b, b < 1 → a ≠ b → (TX10 a).2.1 ≠ (TX10 b).2.1 := by decide +kernel
theorem tyX10_ok : ∀ k, k < 1 → parseFieldDescriptor (TX10 k).2.2.1 = some (tyX10 k) := by decide +kernel
abbrev cX10_init : ByteArray := prog_17_method_1_code
def yX10_init : MethodName := ⟨RX10, "<init>", "(Ljava/lang/String;)V"⟩
def dkwX10_init_0 : List UInt8 := [42, 183, 0, 1, 42, 43, 181, 0, 7, 177]
abbrev dktX10_init_0 : List UInt8 := dkwX10_init_0 ++ []
theorem dksX10_init_0 : cX10_init.data.toList.drop 0 = dktX10_init_0 := by decide +kernel
theorem dX10_init_0 : decode cX10_init 0 = .ok (.aload_n 0, 1) := dk_42 (dk_at dksX10_init_0 0 rfl rfl)
theorem dX10_init_1 : decode cX10_init 1 = .ok (.invokespecial 1, 3) := dk_183 0 1 (dk_at dksX10_init_0 1 rfl rfl)
theorem dX10_init_4 : decode cX10_init 4 = .ok (.aload_n 0, 1) := dk_42 (dk_at dksX10_init_0 4 rfl rfl)
theorem dX10_init_5 : decode cX10_init 5 = .ok (.aload_n 1, 1) := dk_43 (dk_at dksX10_init_0 5 rfl rfl)
theorem dX10_init_6 : decode cX10_init 6 = .ok (.putfield 7, 3) := dk_181 0 7 (dk_at dksX10_init_0 6 rfl rfl)
theorem dX10_init_9 : decode cX10_init 9 = .ok (.return_, 1) := dk_177 (dk_at dksX10_init_0 9 rfl rfl)
abbrev cX10_render : ByteArray := prog_17_method_2_code
def yX10_render : MethodName := ⟨RX10, "render", "(LTemplateEngine$Rendering;LTemplateEngine$Context;I)V"⟩
def dkwX10_render_0 : List UInt8 := [43, 180, 0, 13, 42, 180, 0, 7, 182, 0, 19, 177]
abbrev dktX10_render_0 : List UInt8 := dkwX10_render_0 ++ []
theorem dksX10_render_0 : cX10_render.data.toList.drop 0 = dktX10_render_0 := by decide +kernel
theorem dX10_render_0 : decode cX10_render 0 = .ok (.aload_n 1, 1) := dk_43 (dk_at dksX10_render_0 0 rfl rfl)
theorem dX10_render_1 : decode cX10_render 1 = .ok (.getfield 13, 3) := dk_180 0 13 (dk_at dksX10_render_0 1 rfl rfl)
theorem dX10_render_4 : decode cX10_render 4 = .ok (.aload_n 0, 1) := dk_42 (dk_at dksX10_render_0 4 rfl rfl)
theorem dX10_render_5 : decode cX10_render 5 = .ok (.getfield 7, 3) := dk_180 0 7 (dk_at dksX10_render_0 5 rfl rfl)
theorem dX10_render_8 : decode cX10_render 8 = .ok (.invokevirtual 19, 3) := dk_182 0 19 (dk_at dksX10_render_0 8 rfl rfl)
theorem dX10_render_11 : decode cX10_render 11 = .ok (.return_, 1) := dk_177 (dk_at dksX10_render_0 11 rfl rfl)
theorem q107 : (Jvm.Cond.initialized "TemplateEngine$Plain") ∈ lw_all := lw_g (lw_at lw_m1 36 rfl) rfl
theorem q669 : (Jvm.Cond.selects "TemplateEngine$Plain" ({ cls := "java/lang/Object", name := "getClass", desc := "()Ljava/lang/Class;" } : Jvm.MethodName) ({ cls := "java/lang/Object", name := "getClass", desc := "()Ljava/lang/Class;" } : Jvm.MethodName)) ∈ lw_all := lw_g (lw_at lw_m3 118 rfl) rfl
theorem q1131 : (Jvm.Cond.instantiable "TemplateEngine$Plain" (1 : Nat)) ∈ lw_all := lw_g (lw_at lw_m5 100 rfl) rfl
theorem q1133 : (Jvm.Cond.instanceMethod ({ cls := "TemplateEngine$Plain", name := "<init>", desc := "(Ljava/lang/String;)V" } : Jvm.MethodName)) ∈ lw_all := lw_g (lw_at lw_m5 102 rfl) rfl
theorem q1134 : (Jvm.Cond.code ({ cls := "TemplateEngine$Plain", name := "<init>", desc := "(Ljava/lang/String;)V" } : Jvm.MethodName) prog_17_method_1_code (2 : Nat) (Option.none : Option Jvm.ClassFile.FieldType)) ∈ lw_all := lw_g (lw_at lw_m5 103 rfl) rfl
theorem q1135 : (Jvm.Cond.methodLink "TemplateEngine$Plain" (1 : Nat) ({ cls := "java/lang/Record", name := "<init>", desc := "()V" } : Jvm.MethodName)) ∈ lw_all := lw_g (lw_at lw_m5 104 rfl) rfl
theorem q1139 : (Jvm.Cond.fieldLink "TemplateEngine$Plain" (7 : Nat) "TemplateEngine$Plain" "text" "Ljava/lang/String;") ∈ lw_all := lw_g (lw_at lw_m5 108 rfl) rfl
theorem q1140 : (Jvm.Cond.laysFinal "TemplateEngine$Plain" "TemplateEngine$Plain" "text" "Ljava/lang/String;") ∈ lw_all := lw_g (lw_at lw_m5 109 rfl) rfl
theorem q1141 : (Jvm.Cond.soleField "TemplateEngine$Plain" "text") ∈ lw_all := lw_g (lw_at lw_m5 110 rfl) rfl
theorem q1142 : (Jvm.Cond.superclass "TemplateEngine$Plain" "java/lang/Record") ∈ lw_all := lw_g (lw_at lw_m5 111 rfl) rfl
theorem q1428 : (Jvm.Cond.fieldLink "TemplateEngine$Plain" (13 : Nat) "TemplateEngine$Rendering" "out" "LTemplateEngine$Output;") ∈ lw_all := lw_g (lw_at lw_m6 157 rfl) rfl
theorem q1727 : (Jvm.Cond.castable "TemplateEngine$Plain" "TemplateEngine$Part") ∈ lw_tbl := lw_at lw_m7 216 rfl
theorem q1728 : (Jvm.Cond.selects "TemplateEngine$Plain" ({ cls := "TemplateEngine$Part", name := "render", desc := "(LTemplateEngine$Rendering;LTemplateEngine$Context;I)V" } : Jvm.MethodName) ({ cls := "TemplateEngine$Plain", name := "render", desc := "(LTemplateEngine$Rendering;LTemplateEngine$Context;I)V" } : Jvm.MethodName)) ∈ lw_all := lw_g (lw_at lw_m7 217 rfl) rfl
theorem q1729 : (Jvm.Cond.unhidden "TemplateEngine$Plain" "render" "(LTemplateEngine$Rendering;LTemplateEngine$Context;I)V") ∈ lw_tbl := lw_at lw_m7 218 rfl
theorem q1730 : (Jvm.Cond.instanceMethod ({ cls := "TemplateEngine$Plain", name := "render", desc := "(LTemplateEngine$Rendering;LTemplateEngine$Context;I)V" } : Jvm.MethodName)) ∈ lw_all := lw_g (lw_at lw_m7 219 rfl) rfl
theorem q1731 : (Jvm.Cond.publicMethod ({ cls := "TemplateEngine$Plain", name := "render", desc := "(LTemplateEngine$Rendering;LTemplateEngine$Context;I)V" } : Jvm.MethodName)) ∈ lw_tbl := lw_at lw_m7 220 rfl
theorem q1732 : (Jvm.Cond.code ({ cls := "TemplateEngine$Plain", name := "render", desc := "(LTemplateEngine$Rendering;LTemplateEngine$Context;I)V" } : Jvm.MethodName) prog_17_method_2_code (4 : Nat) (Option.none : Option Jvm.ClassFile.FieldType)) ∈ lw_all := lw_g (lw_at lw_m7 221 rfl) rfl
theorem q1733 : (Jvm.Cond.methodLink "TemplateEngine$Plain" (19 : Nat) ({ cls := "TemplateEngine$Output", name := "add", desc := "(Ljava/lang/String;)V" } : Jvm.MethodName)) ∈ lw_all := lw_g (lw_at lw_m7 222 rfl) rfl
theorem q2303 : (Jvm.Cond.castable "TemplateEngine$Plain" "java/lang/Object") ∈ lw_tbl := lw_at lw_m10 72 rfl
theorem in_X10 : ∀ w ∈ wsX100, w ∈ lw_all := lw_in wsX100 [1140] (by decide +kernel) (by decide +kernel)

/-! TemplateEngine$Shown -/
set_option maxRecDepth 100000
def RX11 : String := "TemplateEngine$Shown"
def TX11 : u_T := fun k => match k with
  | 0 => ("TemplateEngine$Shown", "value", "LTemplateEngine$Operand;", true)
  | _ => ("TemplateEngine$Shown", "raw", "Z", true)
def tyX11 : Nat → FieldType := fun k => match k with
  | 0 => .object "TemplateEngine$Operand"
  | _ => .boolean
abbrev wsX110 : List Cond := u_ws RX11 TX11 2
theorem nmX11 : ∀ a, a < 2 → ∀ b, b < 2 → a ≠ b → (TX11 a).2.1 ≠ (TX11 b).2.1 := by decide +kernel
theorem tyX11_ok : ∀ k, k < 2 → parseFieldDescriptor (TX11 k).2.2.1 = some (tyX11 k) := by decide +kernel
abbrev cX11_init : ByteArray := prog_20_method_1_code
def yX11_init : MethodName := ⟨RX11, "<init>", "(LTemplateEngine$Operand;Z)V"⟩
def dkwX11_init_0 : List UInt8 := [42, 183, 0, 1, 42, 43, 181, 0, 7, 42, 28, 181, 0, 13, 177]
abbrev dktX11_init_0 : List UInt8 := dkwX11_init_0 ++ []
theorem dksX11_init_0 : cX11_init.data.toList.drop 0 = dktX11_init_0 := by decide +kernel
theorem dX11_init_0 : decode cX11_init 0 = .ok (.aload_n 0, 1) := dk_42 (dk_at dksX11_init_0 0 rfl rfl)
theorem dX11_init_1 : decode cX11_init 1 = .ok (.invokespecial 1, 3) := dk_183 0 1 (dk_at dksX11_init_0 1 rfl rfl)
theorem dX11_init_4 : decode cX11_init 4 = .ok (.aload_n 0, 1) := dk_42 (dk_at dksX11_init_0 4 rfl rfl)
theorem dX11_init_5 : decode cX11_init 5 = .ok (.aload_n 1, 1) := dk_43 (dk_at dksX11_init_0 5 rfl rfl)
theorem dX11_init_6 : decode cX11_init 6 = .ok (.putfield 7, 3) := dk_181 0 7 (dk_at dksX11_init_0 6 rfl rfl)
theorem dX11_init_9 : decode cX11_init 9 = .ok (.aload_n 0, 1) := dk_42 (dk_at dksX11_init_0 9 rfl rfl)
theorem dX11_init_10 : decode cX11_init 10 = .ok (.iload_n 2, 1) := dk_28 (dk_at dksX11_init_0 10 rfl rfl)
theorem dX11_init_11 : decode cX11_init 11 = .ok (.putfield 13, 3) := dk_181 0 13 (dk_at dksX11_init_0 11 rfl rfl)
theorem dX11_init_14 : decode cX11_init 14 = .ok (.return_, 1) := dk_177 (dk_at dksX11_init_0 14 rfl rfl)
abbrev cX11_render : ByteArray := prog_20_method_2_code
def yX11_render : MethodName := ⟨RX11, "render", "(LTemplateEngine$Rendering;LTemplateEngine$Context;I)V"⟩
def dkwX11_render_2 : List UInt8 := [180, 0, 37, 25, 4, 182, 0, 42, 182, 0, 48, 177]
abbrev dktX11_render_2 : List UInt8 := dkwX11_render_2 ++ []
def dkwX11_render_1 : List UInt8 := [180, 0, 13, 153, 0, 15, 25, 4, 43, 180, 0, 27, 182, 0, 31, 167, 0, 19, 43, 180, 0, 27, 44]
abbrev dktX11_render_1 : List UInt8 := dkwX11_render_1 ++ dktX11_render_2
def dkwX11_render_0 : List UInt8 := [43, 182, 0, 17, 42, 180, 0, 7, 44, 29, 185, 0, 22, 3, 0, 58, 4, 25, 4, 199, 0, 4, 177, 42]
abbrev dktX11_render_0 : List UInt8 := dkwX11_render_0 ++ dktX11_render_1
theorem dksX11_render_0 : cX11_render.data.toList.drop 0 = dktX11_render_0 := by decide +kernel
theorem dksX11_render_1 : cX11_render.data.toList.drop 24 = dktX11_render_1 := dk_seg dksX11_render_0 24 rfl rfl
theorem dksX11_render_2 : cX11_render.data.toList.drop 47 = dktX11_render_2 := dk_seg dksX11_render_1 23 rfl rfl
theorem dX11_render_0 : decode cX11_render 0 = .ok (.aload_n 1, 1) := dk_43 (dk_at dksX11_render_0 0 rfl rfl)
theorem dX11_render_1 : decode cX11_render 1 = .ok (.invokevirtual 17, 3) := dk_182 0 17 (dk_at dksX11_render_0 1 rfl rfl)
theorem dX11_render_4 : decode cX11_render 4 = .ok (.aload_n 0, 1) := dk_42 (dk_at dksX11_render_0 4 rfl rfl)
theorem dX11_render_5 : decode cX11_render 5 = .ok (.getfield 7, 3) := dk_180 0 7 (dk_at dksX11_render_0 5 rfl rfl)
theorem dX11_render_8 : decode cX11_render 8 = .ok (.aload_n 2, 1) := dk_44 (dk_at dksX11_render_0 8 rfl rfl)
theorem dX11_render_9 : decode cX11_render 9 = .ok (.iload_n 3, 1) := dk_29 (dk_at dksX11_render_0 9 rfl rfl)
theorem dX11_render_10 : decode cX11_render 10 = .ok (.invokeinterface 22 3, 5) := by decide +kernel
theorem dX11_render_15 : decode cX11_render 15 = .ok (.astore 4, 2) := dk_58 4 (dk_at dksX11_render_0 15 rfl rfl)
theorem dX11_render_17 : decode cX11_render 17 = .ok (.aload 4, 2) := dk_25 4 (dk_at dksX11_render_0 17 rfl rfl)
theorem dX11_render_19 : decode cX11_render 19 = .ok (.ifnonnull 4, 3) := dk_199 0 4 (dk_at dksX11_render_0 19 rfl rfl)
theorem dX11_render_22 : decode cX11_render 22 = .ok (.return_, 1) := dk_177 (dk_at dksX11_render_0 22 rfl rfl)
theorem dX11_render_23 : decode cX11_render 23 = .ok (.aload_n 0, 1) := dk_42 (dk_at dksX11_render_0 23 rfl rfl)
theorem dX11_render_24 : decode cX11_render 24 = .ok (.getfield 13, 3) := dk_180 0 13 (dk_at dksX11_render_1 0 rfl rfl)
theorem dX11_render_27 : decode cX11_render 27 = .ok (.ifCond .eq 15, 3) := dk_153 0 15 (dk_at dksX11_render_1 3 rfl rfl)
theorem dX11_render_30 : decode cX11_render 30 = .ok (.aload 4, 2) := dk_25 4 (dk_at dksX11_render_1 6 rfl rfl)
theorem dX11_render_32 : decode cX11_render 32 = .ok (.aload_n 1, 1) := dk_43 (dk_at dksX11_render_1 8 rfl rfl)
theorem dX11_render_33 : decode cX11_render 33 = .ok (.getfield 27, 3) := dk_180 0 27 (dk_at dksX11_render_1 9 rfl rfl)
theorem dX11_render_36 : decode cX11_render 36 = .ok (.invokevirtual 31, 3) := dk_182 0 31 (dk_at dksX11_render_1 12 rfl rfl)
theorem dX11_render_39 : decode cX11_render 39 = .ok (.goto 19, 3) := dk_167 0 19 (dk_at dksX11_render_1 15 rfl rfl)
theorem dX11_render_42 : decode cX11_render 42 = .ok (.aload_n 1, 1) := dk_43 (dk_at dksX11_render_1 18 rfl rfl)
theorem dX11_render_43 : decode cX11_render 43 = .ok (.getfield 27, 3) := dk_180 0 27 (dk_at dksX11_render_1 19 rfl rfl)
theorem dX11_render_46 : decode cX11_render 46 = .ok (.aload_n 2, 1) := dk_44 (dk_at dksX11_render_1 22 rfl rfl)
theorem dX11_render_47 : decode cX11_render 47 = .ok (.getfield 37, 3) := dk_180 0 37 (dk_at dksX11_render_2 0 rfl rfl)
theorem dX11_render_50 : decode cX11_render 50 = .ok (.aload 4, 2) := dk_25 4 (dk_at dksX11_render_2 3 rfl rfl)
theorem dX11_render_52 : decode cX11_render 52 = .ok (.invokevirtual 42, 3) := dk_182 0 42 (dk_at dksX11_render_2 5 rfl rfl)
theorem dX11_render_55 : decode cX11_render 55 = .ok (.invokevirtual 48, 3) := dk_182 0 48 (dk_at dksX11_render_2 8 rfl rfl)
theorem dX11_render_58 : decode cX11_render 58 = .ok (.return_, 1) := dk_177 (dk_at dksX11_render_2 11 rfl rfl)
theorem q108 : (Jvm.Cond.initialized "TemplateEngine$Shown") ∈ lw_all := lw_g (lw_at lw_m1 37 rfl) rfl
theorem q672 : (Jvm.Cond.selects "TemplateEngine$Shown" ({ cls := "java/lang/Object", name := "getClass", desc := "()Ljava/lang/Class;" } : Jvm.MethodName) ({ cls := "java/lang/Object", name := "getClass", desc := "()Ljava/lang/Class;" } : Jvm.MethodName)) ∈ lw_all := lw_g (lw_at lw_m3 121 rfl) rfl
theorem q1157 : (Jvm.Cond.instantiable "TemplateEngine$Shown" (2 : Nat)) ∈ lw_all := lw_g (lw_at lw_m5 126 rfl) rfl
theorem q1327 : (Jvm.Cond.instanceMethod ({ cls := "TemplateEngine$Shown", name := "<init>", desc := "(LTemplateEngine$Operand;Z)V" } : Jvm.MethodName)) ∈ lw_all := lw_g (lw_at lw_m6 56 rfl) rfl
theorem q1328 : (Jvm.Cond.code ({ cls := "TemplateEngine$Shown", name := "<init>", desc := "(LTemplateEngine$Operand;Z)V" } : Jvm.MethodName) prog_20_method_1_code (3 : Nat) (Option.none : Option Jvm.ClassFile.FieldType)) ∈ lw_all := lw_g (lw_at lw_m6 57 rfl) rfl
theorem q1329 : (Jvm.Cond.methodLink "TemplateEngine$Shown" (1 : Nat) ({ cls := "java/lang/Record", name := "<init>", desc := "()V" } : Jvm.MethodName)) ∈ lw_all := lw_g (lw_at lw_m6 58 rfl) rfl
theorem q1330 : (Jvm.Cond.fieldLink "TemplateEngine$Shown" (7 : Nat) "TemplateEngine$Shown" "value" "LTemplateEngine$Operand;") ∈ lw_all := lw_g (lw_at lw_m6 59 rfl) rfl
theorem q1331 : (Jvm.Cond.fieldLink "TemplateEngine$Shown" (13 : Nat) "TemplateEngine$Shown" "raw" "Z") ∈ lw_all := lw_g (lw_at lw_m6 60 rfl) rfl
theorem q1332 : (Jvm.Cond.laysFinal "TemplateEngine$Shown" "TemplateEngine$Shown" "value" "LTemplateEngine$Operand;") ∈ lw_all := lw_g (lw_at lw_m6 61 rfl) rfl
theorem q1333 : (Jvm.Cond.soleField "TemplateEngine$Shown" "value") ∈ lw_all := lw_g (lw_at lw_m6 62 rfl) rfl
theorem q1334 : (Jvm.Cond.laysFinal "TemplateEngine$Shown" "TemplateEngine$Shown" "raw" "Z") ∈ lw_all := lw_g (lw_at lw_m6 63 rfl) rfl
theorem q1335 : (Jvm.Cond.soleField "TemplateEngine$Shown" "raw") ∈ lw_all := lw_g (lw_at lw_m6 64 rfl) rfl
theorem q1336 : (Jvm.Cond.superclass "TemplateEngine$Shown" "java/lang/Record") ∈ lw_all := lw_g (lw_at lw_m6 65 rfl) rfl
theorem q1429 : (Jvm.Cond.fieldLink "TemplateEngine$Shown" (27 : Nat) "TemplateEngine$Rendering" "out" "LTemplateEngine$Output;") ∈ lw_all := lw_g (lw_at lw_m6 158 rfl) rfl
theorem q1457 : (Jvm.Cond.fieldLink "TemplateEngine$Shown" (37 : Nat) "TemplateEngine$Context" "first" "LTemplateEngine$Output;") ∈ lw_all := lw_g (lw_at lw_m6 186 rfl) rfl
theorem q1741 : (Jvm.Cond.castable "TemplateEngine$Shown" "TemplateEngine$Part") ∈ lw_tbl := lw_at lw_m7 230 rfl
theorem q1742 : (Jvm.Cond.selects "TemplateEngine$Shown" ({ cls := "TemplateEngine$Part", name := "render", desc := "(LTemplateEngine$Rendering;LTemplateEngine$Context;I)V" } : Jvm.MethodName) ({ cls := "TemplateEngine$Shown", name := "render", desc := "(LTemplateEngine$Rendering;LTemplateEngine$Context;I)V" } : Jvm.MethodName)) ∈ lw_all := lw_g (lw_at lw_m7 231 rfl) rfl
theorem q1743 : (Jvm.Cond.unhidden "TemplateEngine$Shown" "render" "(LTemplateEngine$Rendering;LTemplateEngine$Context;I)V") ∈ lw_tbl := lw_at lw_m7 232 rfl
theorem q1744 : (Jvm.Cond.instanceMethod ({ cls := "TemplateEngine$Shown", name := "render", desc := "(LTemplateEngine$Rendering;LTemplateEngine$Context;I)V" } : Jvm.MethodName)) ∈ lw_all := lw_g (lw_at lw_m7 233 rfl) rfl
theorem q1745 : (Jvm.Cond.publicMethod ({ cls := "TemplateEngine$Shown", name := "render", desc := "(LTemplateEngine$Rendering;LTemplateEngine$Context;I)V" } : Jvm.MethodName)) ∈ lw_tbl := lw_at lw_m7 234 rfl
theorem q1746 : (Jvm.Cond.code ({ cls := "TemplateEngine$Shown", name := "render", desc := "(LTemplateEngine$Rendering;LTemplateEngine$Context;I)V" } : Jvm.MethodName) prog_20_method_2_code (5 : Nat) (Option.none : Option Jvm.ClassFile.FieldType)) ∈ lw_all := lw_g (lw_at lw_m7 235 rfl) rfl
theorem q1747 : (Jvm.Cond.methodLink "TemplateEngine$Shown" (17 : Nat) ({ cls := "TemplateEngine$Rendering", name := "tag", desc := "()V" } : Jvm.MethodName)) ∈ lw_all := lw_g (lw_at lw_m7 236 rfl) rfl
theorem q1748 : (Jvm.Cond.interfaceEntry "TemplateEngine$Shown" (22 : Nat)) ∈ lw_tbl := lw_at lw_m7 237 rfl
theorem q1749 : (Jvm.Cond.methodLink "TemplateEngine$Shown" (22 : Nat) ({ cls := "TemplateEngine$Operand", name := "value", desc := "(LTemplateEngine$Context;I)LTemplateEngine$Data;" } : Jvm.MethodName)) ∈ lw_all := lw_g (lw_at lw_m7 238 rfl) rfl
theorem q1750 : (Jvm.Cond.methodLink "TemplateEngine$Shown" (31 : Nat) ({ cls := "TemplateEngine$Data", name := "write", desc := "(LTemplateEngine$Output;)V" } : Jvm.MethodName)) ∈ lw_all := lw_g (lw_at lw_m7 239 rfl) rfl
theorem q1751 : (Jvm.Cond.methodLink "TemplateEngine$Shown" (42 : Nat) ({ cls := "TemplateEngine$Output", name := "of", desc := "(LTemplateEngine$Data;)LTemplateEngine$Output;" } : Jvm.MethodName)) ∈ lw_all := lw_g (lw_at lw_m8 0 rfl) rfl
theorem q1752 : (Jvm.Cond.methodLink "TemplateEngine$Shown" (48 : Nat) ({ cls := "TemplateEngine$Output", name := "addEscaped", desc := "(LTemplateEngine$Output;)V" } : Jvm.MethodName)) ∈ lw_all := lw_g (lw_at lw_m8 1 rfl) rfl
theorem q2304 : (Jvm.Cond.castable "TemplateEngine$Shown" "java/lang/Object") ∈ lw_tbl := lw_at lw_m10 73 rfl
theorem in_X11 : ∀ w ∈ wsX110, w ∈ lw_all := lw_in wsX110 [1332, 1334] (by decide +kernel) (by decide +kernel)

/-! TemplateEngine$Turn -/
set_option maxRecDepth 100000
def RX12 : String := "TemplateEngine$Turn"
def TX12 : u_T := fun k => match k with
  | _ => ("TemplateEngine$Turn", "first", "Z", true)
def tyX12 : Nat → FieldType := fun k => match k with
  | _ => .boolean
abbrev wsX120 : List Cond := u_ws RX12 TX12 1
theorem nmX12 : ∀ a, a < 1 → ∀ b, b < 1 → a ≠ b → (TX12 a).2.1 ≠ (TX12 b).2.1 := by decide +kernel
theorem tyX12_ok : ∀ k, k < 1 → parseFieldDescriptor (TX12 k).2.2.1 = some (tyX12 k) := by decide +kernel
abbrev cX12_init : ByteArray := prog_22_method_1_code
def yX12_init : MethodName := ⟨RX12, "<init>", "(Z)V"⟩
def dkwX12_init_0 : List UInt8 := [42, 183, 0, 1, 42, 27, 181, 0, 7, 177]
abbrev dktX12_init_0 : List UInt8 := dkwX12_init_0 ++ []
theorem dksX12_init_0 : cX12_init.data.toList.drop 0 = dktX12_init_0 := by decide +kernel
theorem dX12_init_0 : decode cX12_init 0 = .ok (.aload_n 0, 1) := dk_42 (dk_at dksX12_init_0 0 rfl rfl)
theorem dX12_init_1 : decode cX12_init 1 = .ok (.invokespecial 1, 3) := dk_183 0 1 (dk_at dksX12_init_0 1 rfl rfl)
theorem dX12_init_4 : decode cX12_init 4 = .ok (.aload_n 0, 1) := dk_42 (dk_at dksX12_init_0 4 rfl rfl)
theorem dX12_init_5 : decode cX12_init 5 = .ok (.iload_n 1, 1) := dk_27 (dk_at dksX12_init_0 5 rfl rfl)
theorem dX12_init_6 : decode cX12_init 6 = .ok (.putfield 7, 3) := dk_181 0 7 (dk_at dksX12_init_0 6 rfl rfl)
theorem dX12_init_9 : decode cX12_init 9 = .ok (.return_, 1) := dk_177 (dk_at dksX12_init_0 9 rfl rfl)
abbrev cX12_value : ByteArray := prog_22_method_2_code
def yX12_value : MethodName := ⟨RX12, "value", "(LTemplateEngine$Context;I)LTemplateEngine$Data;"⟩
def dkwX12_value_1 : List UInt8 := [3, 167, 0, 4, 28, 50, 176]
abbrev dktX12_value_1 : List UInt8 := dkwX12_value_1 ++ []
def dkwX12_value_0 : List UInt8 := [28, 156, 0, 5, 1, 176, 178, 0, 13, 42, 180, 0, 7, 153, 0, 15, 28, 154, 0, 7, 4, 167, 0, 8]
abbrev dktX12_value_0 : List UInt8 := dkwX12_value_0 ++ dktX12_value_1
theorem dksX12_value_0 : cX12_value.data.toList.drop 0 = dktX12_value_0 := by decide +kernel
theorem dksX12_value_1 : cX12_value.data.toList.drop 24 = dktX12_value_1 := dk_seg dksX12_value_0 24 rfl rfl
theorem dX12_value_0 : decode cX12_value 0 = .ok (.iload_n 2, 1) := dk_28 (dk_at dksX12_value_0 0 rfl rfl)
theorem dX12_value_1 : decode cX12_value 1 = .ok (.ifCond .ge 5, 3) := dk_156 0 5 (dk_at dksX12_value_0 1 rfl rfl)
theorem dX12_value_4 : decode cX12_value 4 = .ok (.aconst_null, 1) := dk_1 (dk_at dksX12_value_0 4 rfl rfl)
theorem dX12_value_5 : decode cX12_value 5 = .ok (.areturn, 1) := dk_176 (dk_at dksX12_value_0 5 rfl rfl)
theorem dX12_value_6 : decode cX12_value 6 = .ok (.getstatic 13, 3) := dk_178 0 13 (dk_at dksX12_value_0 6 rfl rfl)
theorem dX12_value_9 : decode cX12_value 9 = .ok (.aload_n 0, 1) := dk_42 (dk_at dksX12_value_0 9 rfl rfl)
theorem dX12_value_10 : decode cX12_value 10 = .ok (.getfield 7, 3) := dk_180 0 7 (dk_at dksX12_value_0 10 rfl rfl)
theorem dX12_value_13 : decode cX12_value 13 = .ok (.ifCond .eq 15, 3) := dk_153 0 15 (dk_at dksX12_value_0 13 rfl rfl)
theorem dX12_value_16 : decode cX12_value 16 = .ok (.iload_n 2, 1) := dk_28 (dk_at dksX12_value_0 16 rfl rfl)
theorem dX12_value_17 : decode cX12_value 17 = .ok (.ifCond .ne 7, 3) := dk_154 0 7 (dk_at dksX12_value_0 17 rfl rfl)
theorem dX12_value_20 : decode cX12_value 20 = .ok (.iconst 1, 1) := dk_4 (dk_at dksX12_value_0 20 rfl rfl)
theorem dX12_value_21 : decode cX12_value 21 = .ok (.goto 8, 3) := dk_167 0 8 (dk_at dksX12_value_0 21 rfl rfl)
theorem dX12_value_24 : decode cX12_value 24 = .ok (.iconst 0, 1) := dk_3 (dk_at dksX12_value_1 0 rfl rfl)
theorem dX12_value_25 : decode cX12_value 25 = .ok (.goto 4, 3) := dk_167 0 4 (dk_at dksX12_value_1 1 rfl rfl)
theorem dX12_value_28 : decode cX12_value 28 = .ok (.iload_n 2, 1) := dk_28 (dk_at dksX12_value_1 4 rfl rfl)
theorem dX12_value_29 : decode cX12_value 29 = .ok (.aaload, 1) := dk_50 (dk_at dksX12_value_1 5 rfl rfl)
theorem dX12_value_30 : decode cX12_value 30 = .ok (.areturn, 1) := dk_176 (dk_at dksX12_value_1 6 rfl rfl)
theorem q109 : (Jvm.Cond.initialized "TemplateEngine$Turn") ∈ lw_all := lw_g (lw_at lw_m1 38 rfl) rfl
theorem q674 : (Jvm.Cond.selects "TemplateEngine$Turn" ({ cls := "java/lang/Object", name := "getClass", desc := "()Ljava/lang/Class;" } : Jvm.MethodName) ({ cls := "java/lang/Object", name := "getClass", desc := "()Ljava/lang/Class;" } : Jvm.MethodName)) ∈ lw_all := lw_g (lw_at lw_m3 123 rfl) rfl
theorem q1172 : (Jvm.Cond.instantiable "TemplateEngine$Turn" (1 : Nat)) ∈ lw_all := lw_g (lw_at lw_m5 141 rfl) rfl
theorem q1174 : (Jvm.Cond.instanceMethod ({ cls := "TemplateEngine$Turn", name := "<init>", desc := "(Z)V" } : Jvm.MethodName)) ∈ lw_all := lw_g (lw_at lw_m5 143 rfl) rfl
theorem q1175 : (Jvm.Cond.code ({ cls := "TemplateEngine$Turn", name := "<init>", desc := "(Z)V" } : Jvm.MethodName) prog_22_method_1_code (2 : Nat) (Option.none : Option Jvm.ClassFile.FieldType)) ∈ lw_all := lw_g (lw_at lw_m5 144 rfl) rfl
theorem q1176 : (Jvm.Cond.methodLink "TemplateEngine$Turn" (1 : Nat) ({ cls := "java/lang/Record", name := "<init>", desc := "()V" } : Jvm.MethodName)) ∈ lw_all := lw_g (lw_at lw_m5 145 rfl) rfl
theorem q1177 : (Jvm.Cond.fieldLink "TemplateEngine$Turn" (7 : Nat) "TemplateEngine$Turn" "first" "Z") ∈ lw_all := lw_g (lw_at lw_m5 146 rfl) rfl
theorem q1178 : (Jvm.Cond.laysFinal "TemplateEngine$Turn" "TemplateEngine$Turn" "first" "Z") ∈ lw_all := lw_g (lw_at lw_m5 147 rfl) rfl
theorem q1179 : (Jvm.Cond.soleField "TemplateEngine$Turn" "first") ∈ lw_all := lw_g (lw_at lw_m5 148 rfl) rfl
theorem q1180 : (Jvm.Cond.superclass "TemplateEngine$Turn" "java/lang/Record") ∈ lw_all := lw_g (lw_at lw_m5 149 rfl) rfl
theorem q1542 : (Jvm.Cond.castable "TemplateEngine$Turn" "TemplateEngine$Operand") ∈ lw_tbl := lw_at lw_m7 31 rfl
theorem q1543 : (Jvm.Cond.selects "TemplateEngine$Turn" ({ cls := "TemplateEngine$Operand", name := "value", desc := "(LTemplateEngine$Context;I)LTemplateEngine$Data;" } : Jvm.MethodName) ({ cls := "TemplateEngine$Turn", name := "value", desc := "(LTemplateEngine$Context;I)LTemplateEngine$Data;" } : Jvm.MethodName)) ∈ lw_all := lw_g (lw_at lw_m7 32 rfl) rfl
theorem q1544 : (Jvm.Cond.unhidden "TemplateEngine$Turn" "value" "(LTemplateEngine$Context;I)LTemplateEngine$Data;") ∈ lw_tbl := lw_at lw_m7 33 rfl
theorem q1545 : (Jvm.Cond.instanceMethod ({ cls := "TemplateEngine$Turn", name := "value", desc := "(LTemplateEngine$Context;I)LTemplateEngine$Data;" } : Jvm.MethodName)) ∈ lw_all := lw_g (lw_at lw_m7 34 rfl) rfl
theorem q1546 : (Jvm.Cond.publicMethod ({ cls := "TemplateEngine$Turn", name := "value", desc := "(LTemplateEngine$Context;I)LTemplateEngine$Data;" } : Jvm.MethodName)) ∈ lw_tbl := lw_at lw_m7 35 rfl
theorem q1547 : (Jvm.Cond.code ({ cls := "TemplateEngine$Turn", name := "value", desc := "(LTemplateEngine$Context;I)LTemplateEngine$Data;" } : Jvm.MethodName) prog_22_method_2_code (3 : Nat) (Option.some (Jvm.ClassFile.FieldType.object "TemplateEngine$Data"))) ∈ lw_all := lw_g (lw_at lw_m7 36 rfl) rfl
theorem q1548 : (Jvm.Cond.fieldLinkNest "TemplateEngine$Turn" (13 : Nat) "TemplateEngine" "DIGITS" "[LTemplateEngine$NumberData;" "TemplateEngine") ∈ lw_tbl := lw_at lw_m7 37 rfl
theorem q2305 : (Jvm.Cond.castable "TemplateEngine$Turn" "java/lang/Object") ∈ lw_tbl := lw_at lw_m10 74 rfl
theorem in_X12 : ∀ w ∈ wsX120, w ∈ lw_all := lw_in wsX120 [1178] (by decide +kernel) (by decide +kernel)

/-! TemplateEngine$Fixed -/
set_option maxRecDepth 100000
def RX13 : String := "TemplateEngine$Fixed"
def TX13 : u_T := fun k => match k with
  | _ => ("TemplateEngine$Fixed", "data", "LTemplateEngine$Data;", true)
def tyX13 : Nat → FieldType := fun k => match k with
  | _ => .object "TemplateEngine$Data"
abbrev wsX130 : List Cond := u_ws RX13 TX13 1
theorem nmX13 : ∀ a, a < 1 → ∀ b, b < 1 → a ≠ b → (TX13 a).2.1 ≠ (TX13 b).2.1 := by decide +kernel
theorem tyX13_ok : ∀ k, k < 1 → parseFieldDescriptor (TX13 k).2.2.1 = some (tyX13 k) := by decide +kernel
abbrev cX13_init : ByteArray := prog_6_method_1_code
def yX13_init : MethodName := ⟨RX13, "<init>", "(LTemplateEngine$Data;)V"⟩
def dkwX13_init_0 : List UInt8 := [42, 183, 0, 1, 42, 43, 181, 0, 7, 177]
abbrev dktX13_init_0 : List UInt8 := dkwX13_init_0 ++ []
theorem dksX13_init_0 : cX13_init.data.toList.drop 0 = dktX13_init_0 := by decide +kernel
theorem dX13_init_0 : decode cX13_init 0 = .ok (.aload_n 0, 1) := dk_42 (dk_at dksX13_init_0 0 rfl rfl)
theorem dX13_init_1 : decode cX13_init 1 = .ok (.invokespecial 1, 3) := dk_183 0 1 (dk_at dksX13_init_0 1 rfl rfl)
theorem dX13_init_4 : decode cX13_init 4 = .ok (.aload_n 0, 1) := dk_42 (dk_at dksX13_init_0 4 rfl rfl)
theorem dX13_init_5 : decode cX13_init 5 = .ok (.aload_n 1, 1) := dk_43 (dk_at dksX13_init_0 5 rfl rfl)
theorem dX13_init_6 : decode cX13_init 6 = .ok (.putfield 7, 3) := dk_181 0 7 (dk_at dksX13_init_0 6 rfl rfl)
theorem dX13_init_9 : decode cX13_init 9 = .ok (.return_, 1) := dk_177 (dk_at dksX13_init_0 9 rfl rfl)
abbrev cX13_value : ByteArray := prog_6_method_2_code
def yX13_value : MethodName := ⟨RX13, "value", "(LTemplateEngine$Context;I)LTemplateEngine$Data;"⟩
theorem dX13_value_0 : decode cX13_value 0 = .ok (.aload_n 0, 1) := by decide +kernel
theorem dX13_value_1 : decode cX13_value 1 = .ok (.getfield 7, 3) := by decide +kernel
theorem dX13_value_4 : decode cX13_value 4 = .ok (.areturn, 1) := by decide +kernel
theorem q110 : (Jvm.Cond.initialized "TemplateEngine$Fixed") ∈ lw_all := lw_g (lw_at lw_m1 39 rfl) rfl
theorem q660 : (Jvm.Cond.selects "TemplateEngine$Fixed" ({ cls := "java/lang/Object", name := "getClass", desc := "()Ljava/lang/Class;" } : Jvm.MethodName) ({ cls := "java/lang/Object", name := "getClass", desc := "()Ljava/lang/Class;" } : Jvm.MethodName)) ∈ lw_all := lw_g (lw_at lw_m3 109 rfl) rfl
theorem q1201 : (Jvm.Cond.instantiable "TemplateEngine$Fixed" (1 : Nat)) ∈ lw_all := lw_g (lw_at lw_m5 170 rfl) rfl
theorem q1205 : (Jvm.Cond.instanceMethod ({ cls := "TemplateEngine$Fixed", name := "<init>", desc := "(LTemplateEngine$Data;)V" } : Jvm.MethodName)) ∈ lw_all := lw_g (lw_at lw_m5 174 rfl) rfl
theorem q1206 : (Jvm.Cond.code ({ cls := "TemplateEngine$Fixed", name := "<init>", desc := "(LTemplateEngine$Data;)V" } : Jvm.MethodName) prog_6_method_1_code (2 : Nat) (Option.none : Option Jvm.ClassFile.FieldType)) ∈ lw_all := lw_g (lw_at lw_m5 175 rfl) rfl
theorem q1207 : (Jvm.Cond.methodLink "TemplateEngine$Fixed" (1 : Nat) ({ cls := "java/lang/Record", name := "<init>", desc := "()V" } : Jvm.MethodName)) ∈ lw_all := lw_g (lw_at lw_m5 176 rfl) rfl
theorem q1208 : (Jvm.Cond.fieldLink "TemplateEngine$Fixed" (7 : Nat) "TemplateEngine$Fixed" "data" "LTemplateEngine$Data;") ∈ lw_all := lw_g (lw_at lw_m5 177 rfl) rfl
theorem q1209 : (Jvm.Cond.laysFinal "TemplateEngine$Fixed" "TemplateEngine$Fixed" "data" "LTemplateEngine$Data;") ∈ lw_all := lw_g (lw_at lw_m5 178 rfl) rfl
theorem q1210 : (Jvm.Cond.soleField "TemplateEngine$Fixed" "data") ∈ lw_all := lw_g (lw_at lw_m5 179 rfl) rfl
theorem q1211 : (Jvm.Cond.superclass "TemplateEngine$Fixed" "java/lang/Record") ∈ lw_all := lw_g (lw_at lw_m5 180 rfl) rfl
theorem q1507 : (Jvm.Cond.castable "TemplateEngine$Fixed" "TemplateEngine$Operand") ∈ lw_tbl := lw_at lw_m6 236 rfl
theorem q1508 : (Jvm.Cond.selects "TemplateEngine$Fixed" ({ cls := "TemplateEngine$Operand", name := "value", desc := "(LTemplateEngine$Context;I)LTemplateEngine$Data;" } : Jvm.MethodName) ({ cls := "TemplateEngine$Fixed", name := "value", desc := "(LTemplateEngine$Context;I)LTemplateEngine$Data;" } : Jvm.MethodName)) ∈ lw_all := lw_g (lw_at lw_m6 237 rfl) rfl
theorem q1509 : (Jvm.Cond.unhidden "TemplateEngine$Fixed" "value" "(LTemplateEngine$Context;I)LTemplateEngine$Data;") ∈ lw_tbl := lw_at lw_m6 238 rfl
theorem q1510 : (Jvm.Cond.instanceMethod ({ cls := "TemplateEngine$Fixed", name := "value", desc := "(LTemplateEngine$Context;I)LTemplateEngine$Data;" } : Jvm.MethodName)) ∈ lw_all := lw_g (lw_at lw_m6 239 rfl) rfl
theorem q1511 : (Jvm.Cond.publicMethod ({ cls := "TemplateEngine$Fixed", name := "value", desc := "(LTemplateEngine$Context;I)LTemplateEngine$Data;" } : Jvm.MethodName)) ∈ lw_tbl := lw_at lw_m7 0 rfl
theorem q1512 : (Jvm.Cond.code ({ cls := "TemplateEngine$Fixed", name := "value", desc := "(LTemplateEngine$Context;I)LTemplateEngine$Data;" } : Jvm.MethodName) prog_6_method_2_code (3 : Nat) (Option.some (Jvm.ClassFile.FieldType.object "TemplateEngine$Data"))) ∈ lw_all := lw_g (lw_at lw_m7 1 rfl) rfl
theorem q2306 : (Jvm.Cond.castable "TemplateEngine$Fixed" "java/lang/Object") ∈ lw_tbl := lw_at lw_m10 75 rfl
theorem in_X13 : ∀ w ∈ wsX130, w ∈ lw_all := lw_in wsX130 [1209] (by decide +kernel) (by decide +kernel)

/-! TemplateEngine$Path -/
set_option maxRecDepth 100000
def RX14 : String := "TemplateEngine$Path"
def TX14 : u_T := fun k => match k with
  | 0 => ("TemplateEngine$Path", "up", "I", true)
  | _ => ("TemplateEngine$Path", "names", "[Ljava/lang/String;", true)
def tyX14 : Nat → FieldType := fun k => match k with
  | 0 => .int
  | _ => .array (.object "java/lang/String")
abbrev wsX140 : List Cond := u_ws RX14 TX14 2
theorem nmX14 : ∀ a, a < 2 → ∀ b, b < 2 → a ≠ b → (TX14 a).2.1 ≠ (TX14 b).2.1 := by decide +kernel
theorem tyX14_ok : ∀ k, k < 2 → parseFieldDescriptor (TX14 k).2.2.1 = some (tyX14 k) := by decide +kernel
abbrev cX14_init : ByteArray := prog_16_method_1_code
def yX14_init : MethodName := ⟨RX14, "<init>", "(I[Ljava/lang/String;)V"⟩
def dkwX14_init_0 : List UInt8 := [42, 183, 0, 1, 42, 27, 181, 0, 7, 42, 44, 181, 0, 13, 177]
abbrev dktX14_init_0 : List UInt8 := dkwX14_init_0 ++ []
theorem dksX14_init_0 : cX14_init.data.toList.drop 0 = dktX14_init_0 := by decide +kernel
theorem dX14_init_0 : decode cX14_init 0 = .ok (.aload_n 0, 1) := dk_42 (dk_at dksX14_init_0 0 rfl rfl)
theorem dX14_init_1 : decode cX14_init 1 = .ok (.invokespecial 1, 3) := dk_183 0 1 (dk_at dksX14_init_0 1 rfl rfl)
theorem dX14_init_4 : decode cX14_init 4 = .ok (.aload_n 0, 1) := dk_42 (dk_at dksX14_init_0 4 rfl rfl)
theorem dX14_init_5 : decode cX14_init 5 = .ok (.iload_n 1, 1) := dk_27 (dk_at dksX14_init_0 5 rfl rfl)
theorem dX14_init_6 : decode cX14_init 6 = .ok (.putfield 7, 3) := dk_181 0 7 (dk_at dksX14_init_0 6 rfl rfl)
theorem dX14_init_9 : decode cX14_init 9 = .ok (.aload_n 0, 1) := dk_42 (dk_at dksX14_init_0 9 rfl rfl)
theorem dX14_init_10 : decode cX14_init 10 = .ok (.aload_n 2, 1) := dk_44 (dk_at dksX14_init_0 10 rfl rfl)
theorem dX14_init_11 : decode cX14_init 11 = .ok (.putfield 13, 3) := dk_181 0 13 (dk_at dksX14_init_0 11 rfl rfl)
theorem dX14_init_14 : decode cX14_init 14 = .ok (.return_, 1) := dk_177 (dk_at dksX14_init_0 14 rfl rfl)
abbrev cX14_value : ByteArray := prog_16_method_2_code
def yX14_value : MethodName := ⟨RX14, "value", "(LTemplateEngine$Context;I)LTemplateEngine$Data;"⟩
def dkwX14_value_3 : List UInt8 := [182, 0, 27, 58, 4, 132, 5, 1, 167, 255, 224, 25, 4, 176]
abbrev dktX14_value_3 : List UInt8 := dkwX14_value_3 ++ []
def dkwX14_value_2 : List UInt8 := [21, 5, 42, 180, 0, 13, 190, 162, 0, 28, 25, 4, 198, 0, 23, 25, 4, 42, 180, 0, 13, 21, 5, 50]
abbrev dktX14_value_2 : List UInt8 := dkwX14_value_2 ++ dktX14_value_3
def dkwX14_value_1 : List UInt8 := [132, 4, 1, 167, 255, 235, 45, 199, 0, 7, 1, 167, 0, 7, 45, 180, 0, 23, 58, 4, 3, 54, 5]
abbrev dktX14_value_1 : List UInt8 := dkwX14_value_1 ++ dktX14_value_2
def dkwX14_value_0 : List UInt8 := [43, 78, 3, 54, 4, 21, 4, 42, 180, 0, 7, 162, 0, 18, 45, 198, 0, 14, 45, 180, 0, 17, 78]
abbrev dktX14_value_0 : List UInt8 := dkwX14_value_0 ++ dktX14_value_1
theorem dksX14_value_0 : cX14_value.data.toList.drop 0 = dktX14_value_0 := by decide +kernel
theorem dksX14_value_1 : cX14_value.data.toList.drop 23 = dktX14_value_1 := dk_seg dksX14_value_0 23 rfl rfl
theorem dksX14_value_2 : cX14_value.data.toList.drop 46 = dktX14_value_2 := dk_seg dksX14_value_1 23 rfl rfl
theorem dksX14_value_3 : cX14_value.data.toList.drop 70 = dktX14_value_3 := dk_seg dksX14_value_2 24 rfl rfl
theorem dX14_value_0 : decode cX14_value 0 = .ok (.aload_n 1, 1) := dk_43 (dk_at dksX14_value_0 0 rfl rfl)
theorem dX14_value_1 : decode cX14_value 1 = .ok (.astore_n 3, 1) := dk_78 (dk_at dksX14_value_0 1 rfl rfl)
theorem dX14_value_2 : decode cX14_value 2 = .ok (.iconst 0, 1) := dk_3 (dk_at dksX14_value_0 2 rfl rfl)
theorem dX14_value_3 : decode cX14_value 3 = .ok (.istore 4, 2) := dk_54 4 (dk_at dksX14_value_0 3 rfl rfl)
theorem dX14_value_5 : decode cX14_value 5 = .ok (.iload 4, 2) := dk_21 4 (dk_at dksX14_value_0 5 rfl rfl)
theorem dX14_value_7 : decode cX14_value 7 = .ok (.aload_n 0, 1) := dk_42 (dk_at dksX14_value_0 7 rfl rfl)
theorem dX14_value_8 : decode cX14_value 8 = .ok (.getfield 7, 3) := dk_180 0 7 (dk_at dksX14_value_0 8 rfl rfl)
theorem dX14_value_11 : decode cX14_value 11 = .ok (.if_icmp .ge 18, 3) := dk_162 0 18 (dk_at dksX14_value_0 11 rfl rfl)
theorem dX14_value_14 : decode cX14_value 14 = .ok (.aload_n 3, 1) := dk_45 (dk_at dksX14_value_0 14 rfl rfl)
theorem dX14_value_15 : decode cX14_value 15 = .ok (.ifnull 14, 3) := dk_198 0 14 (dk_at dksX14_value_0 15 rfl rfl)
theorem dX14_value_18 : decode cX14_value 18 = .ok (.aload_n 3, 1) := dk_45 (dk_at dksX14_value_0 18 rfl rfl)
theorem dX14_value_19 : decode cX14_value 19 = .ok (.getfield 17, 3) := dk_180 0 17 (dk_at dksX14_value_0 19 rfl rfl)
theorem dX14_value_22 : decode cX14_value 22 = .ok (.astore_n 3, 1) := dk_78 (dk_at dksX14_value_0 22 rfl rfl)
theorem dX14_value_23 : decode cX14_value 23 = .ok (.iinc 4 1, 3) := dk_132 4 1 (dk_at dksX14_value_1 0 rfl rfl)
theorem dX14_value_26 : decode cX14_value 26 = .ok (.goto (-21), 3) := dk_167 255 235 (dk_at dksX14_value_1 3 rfl rfl)
theorem dX14_value_29 : decode cX14_value 29 = .ok (.aload_n 3, 1) := dk_45 (dk_at dksX14_value_1 6 rfl rfl)
theorem dX14_value_30 : decode cX14_value 30 = .ok (.ifnonnull 7, 3) := dk_199 0 7 (dk_at dksX14_value_1 7 rfl rfl)
theorem dX14_value_33 : decode cX14_value 33 = .ok (.aconst_null, 1) := dk_1 (dk_at dksX14_value_1 10 rfl rfl)
theorem dX14_value_34 : decode cX14_value 34 = .ok (.goto 7, 3) := dk_167 0 7 (dk_at dksX14_value_1 11 rfl rfl)
theorem dX14_value_37 : decode cX14_value 37 = .ok (.aload_n 3, 1) := dk_45 (dk_at dksX14_value_1 14 rfl rfl)
theorem dX14_value_38 : decode cX14_value 38 = .ok (.getfield 23, 3) := dk_180 0 23 (dk_at dksX14_value_1 15 rfl rfl)
theorem dX14_value_41 : decode cX14_value 41 = .ok (.astore 4, 2) := dk_58 4 (dk_at dksX14_value_1 18 rfl rfl)
theorem dX14_value_43 : decode cX14_value 43 = .ok (.iconst 0, 1) := dk_3 (dk_at dksX14_value_1 20 rfl rfl)
theorem dX14_value_44 : decode cX14_value 44 = .ok (.istore 5, 2) := dk_54 5 (dk_at dksX14_value_1 21 rfl rfl)
theorem dX14_value_46 : decode cX14_value 46 = .ok (.iload 5, 2) := dk_21 5 (dk_at dksX14_value_2 0 rfl rfl)
theorem dX14_value_48 : decode cX14_value 48 = .ok (.aload_n 0, 1) := dk_42 (dk_at dksX14_value_2 2 rfl rfl)
theorem dX14_value_49 : decode cX14_value 49 = .ok (.getfield 13, 3) := dk_180 0 13 (dk_at dksX14_value_2 3 rfl rfl)
theorem dX14_value_52 : decode cX14_value 52 = .ok (.arraylength, 1) := dk_190 (dk_at dksX14_value_2 6 rfl rfl)
theorem dX14_value_53 : decode cX14_value 53 = .ok (.if_icmp .ge 28, 3) := dk_162 0 28 (dk_at dksX14_value_2 7 rfl rfl)
theorem dX14_value_56 : decode cX14_value 56 = .ok (.aload 4, 2) := dk_25 4 (dk_at dksX14_value_2 10 rfl rfl)
theorem dX14_value_58 : decode cX14_value 58 = .ok (.ifnull 23, 3) := dk_198 0 23 (dk_at dksX14_value_2 12 rfl rfl)
theorem dX14_value_61 : decode cX14_value 61 = .ok (.aload 4, 2) := dk_25 4 (dk_at dksX14_value_2 15 rfl rfl)
theorem dX14_value_63 : decode cX14_value 63 = .ok (.aload_n 0, 1) := dk_42 (dk_at dksX14_value_2 17 rfl rfl)
theorem dX14_value_64 : decode cX14_value 64 = .ok (.getfield 13, 3) := dk_180 0 13 (dk_at dksX14_value_2 18 rfl rfl)
theorem dX14_value_67 : decode cX14_value 67 = .ok (.iload 5, 2) := dk_21 5 (dk_at dksX14_value_2 21 rfl rfl)
theorem dX14_value_69 : decode cX14_value 69 = .ok (.aaload, 1) := dk_50 (dk_at dksX14_value_2 23 rfl rfl)
theorem dX14_value_70 : decode cX14_value 70 = .ok (.invokevirtual 27, 3) := dk_182 0 27 (dk_at dksX14_value_3 0 rfl rfl)
theorem dX14_value_73 : decode cX14_value 73 = .ok (.astore 4, 2) := dk_58 4 (dk_at dksX14_value_3 3 rfl rfl)
theorem dX14_value_75 : decode cX14_value 75 = .ok (.iinc 5 1, 3) := dk_132 5 1 (dk_at dksX14_value_3 5 rfl rfl)
theorem dX14_value_78 : decode cX14_value 78 = .ok (.goto (-32), 3) := dk_167 255 224 (dk_at dksX14_value_3 8 rfl rfl)
theorem dX14_value_81 : decode cX14_value 81 = .ok (.aload 4, 2) := dk_25 4 (dk_at dksX14_value_3 11 rfl rfl)
theorem dX14_value_83 : decode cX14_value 83 = .ok (.areturn, 1) := dk_176 (dk_at dksX14_value_3 13 rfl rfl)
theorem q111 : (Jvm.Cond.initialized "TemplateEngine$Path") ∈ lw_all := lw_g (lw_at lw_m1 40 rfl) rfl
theorem q668 : (Jvm.Cond.selects "TemplateEngine$Path" ({ cls := "java/lang/Object", name := "getClass", desc := "()Ljava/lang/Class;" } : Jvm.MethodName) ({ cls := "java/lang/Object", name := "getClass", desc := "()Ljava/lang/Class;" } : Jvm.MethodName)) ∈ lw_all := lw_g (lw_at lw_m3 117 rfl) rfl
theorem q1223 : (Jvm.Cond.instantiable "TemplateEngine$Path" (2 : Nat)) ∈ lw_all := lw_g (lw_at lw_m5 192 rfl) rfl
theorem q1226 : (Jvm.Cond.instanceMethod ({ cls := "TemplateEngine$Path", name := "<init>", desc := "(I[Ljava/lang/String;)V" } : Jvm.MethodName)) ∈ lw_all := lw_g (lw_at lw_m5 195 rfl) rfl
theorem q1227 : (Jvm.Cond.code ({ cls := "TemplateEngine$Path", name := "<init>", desc := "(I[Ljava/lang/String;)V" } : Jvm.MethodName) prog_16_method_1_code (3 : Nat) (Option.none : Option Jvm.ClassFile.FieldType)) ∈ lw_all := lw_g (lw_at lw_m5 196 rfl) rfl
theorem q1228 : (Jvm.Cond.methodLink "TemplateEngine$Path" (1 : Nat) ({ cls := "java/lang/Record", name := "<init>", desc := "()V" } : Jvm.MethodName)) ∈ lw_all := lw_g (lw_at lw_m5 197 rfl) rfl
theorem q1229 : (Jvm.Cond.fieldLink "TemplateEngine$Path" (7 : Nat) "TemplateEngine$Path" "up" "I") ∈ lw_all := lw_g (lw_at lw_m5 198 rfl) rfl
theorem q1230 : (Jvm.Cond.fieldLink "TemplateEngine$Path" (13 : Nat) "TemplateEngine$Path" "names" "[Ljava/lang/String;") ∈ lw_all := lw_g (lw_at lw_m5 199 rfl) rfl
theorem q1231 : (Jvm.Cond.laysFinal "TemplateEngine$Path" "TemplateEngine$Path" "up" "I") ∈ lw_all := lw_g (lw_at lw_m5 200 rfl) rfl
theorem q1232 : (Jvm.Cond.soleField "TemplateEngine$Path" "up") ∈ lw_all := lw_g (lw_at lw_m5 201 rfl) rfl
theorem q1233 : (Jvm.Cond.laysFinal "TemplateEngine$Path" "TemplateEngine$Path" "names" "[Ljava/lang/String;") ∈ lw_all := lw_g (lw_at lw_m5 202 rfl) rfl
theorem q1234 : (Jvm.Cond.soleField "TemplateEngine$Path" "names") ∈ lw_all := lw_g (lw_at lw_m5 203 rfl) rfl
theorem q1235 : (Jvm.Cond.superclass "TemplateEngine$Path" "java/lang/Record") ∈ lw_all := lw_g (lw_at lw_m5 204 rfl) rfl
theorem q1452 : (Jvm.Cond.fieldLinkNest "TemplateEngine$Path" (23 : Nat) "TemplateEngine$Context" "data" "LTemplateEngine$Data;" "TemplateEngine") ∈ lw_tbl := lw_at lw_m6 181 rfl
theorem q1454 : (Jvm.Cond.fieldLink "TemplateEngine$Path" (17 : Nat) "TemplateEngine$Context" "before" "LTemplateEngine$Context;") ∈ lw_all := lw_g (lw_at lw_m6 183 rfl) rfl
theorem q1521 : (Jvm.Cond.castable "TemplateEngine$Path" "TemplateEngine$Operand") ∈ lw_tbl := lw_at lw_m7 10 rfl
theorem q1522 : (Jvm.Cond.selects "TemplateEngine$Path" ({ cls := "TemplateEngine$Operand", name := "value", desc := "(LTemplateEngine$Context;I)LTemplateEngine$Data;" } : Jvm.MethodName) ({ cls := "TemplateEngine$Path", name := "value", desc := "(LTemplateEngine$Context;I)LTemplateEngine$Data;" } : Jvm.MethodName)) ∈ lw_all := lw_g (lw_at lw_m7 11 rfl) rfl
theorem q1523 : (Jvm.Cond.unhidden "TemplateEngine$Path" "value" "(LTemplateEngine$Context;I)LTemplateEngine$Data;") ∈ lw_tbl := lw_at lw_m7 12 rfl
theorem q1524 : (Jvm.Cond.instanceMethod ({ cls := "TemplateEngine$Path", name := "value", desc := "(LTemplateEngine$Context;I)LTemplateEngine$Data;" } : Jvm.MethodName)) ∈ lw_all := lw_g (lw_at lw_m7 13 rfl) rfl
theorem q1525 : (Jvm.Cond.publicMethod ({ cls := "TemplateEngine$Path", name := "value", desc := "(LTemplateEngine$Context;I)LTemplateEngine$Data;" } : Jvm.MethodName)) ∈ lw_tbl := lw_at lw_m7 14 rfl
theorem q1526 : (Jvm.Cond.code ({ cls := "TemplateEngine$Path", name := "value", desc := "(LTemplateEngine$Context;I)LTemplateEngine$Data;" } : Jvm.MethodName) prog_16_method_2_code (6 : Nat) (Option.some (Jvm.ClassFile.FieldType.object "TemplateEngine$Data"))) ∈ lw_all := lw_g (lw_at lw_m7 15 rfl) rfl
theorem q1527 : (Jvm.Cond.methodLink "TemplateEngine$Path" (27 : Nat) ({ cls := "TemplateEngine$Data", name := "member", desc := "(Ljava/lang/String;)LTemplateEngine$Data;" } : Jvm.MethodName)) ∈ lw_all := lw_g (lw_at lw_m7 16 rfl) rfl
theorem q2307 : (Jvm.Cond.castable "TemplateEngine$Path" "java/lang/Object") ∈ lw_tbl := lw_at lw_m10 76 rfl
theorem in_X14 : ∀ w ∈ wsX140, w ∈ lw_all := lw_in wsX140 [1231, 1233] (by decide +kernel) (by decide +kernel)

/-! TemplateEngine$Help -/
set_option maxRecDepth 100000
def RX15 : String := "TemplateEngine$Help"
def TX15 : u_T := fun k => match k with
  | 0 => ("TemplateEngine$Help", "helper", "Ljava/lang/String;", true)
  | 1 => ("TemplateEngine$Help", "a", "LTemplateEngine$Operand;", true)
  | _ => ("TemplateEngine$Help", "b", "LTemplateEngine$Operand;", true)
def tyX15 : Nat → FieldType := fun k => match k with
  | 0 => .object "java/lang/String"
  | 1 => .object "TemplateEngine$Operand"
  | _ => .object "TemplateEngine$Operand"
abbrev wsX150 : List Cond := u_ws RX15 TX15 3
theorem nmX15 : ∀ a, a < 3 → ∀ b, b < 3 → a ≠ b → (TX15 a).2.1 ≠ (TX15 b).2.1 := by decide +kernel
theorem tyX15_ok : ∀ k, k < 3 → parseFieldDescriptor (TX15 k).2.2.1 = some (tyX15 k) := by decide +kernel
abbrev cX15_init : ByteArray := prog_7_method_1_code
def yX15_init : MethodName := ⟨RX15, "<init>", "(Ljava/lang/String;LTemplateEngine$Operand;LTemplateEngine$Operand;)V"⟩
def dkwX15_init_0 : List UInt8 := [42, 183, 0, 1, 42, 43, 181, 0, 7, 42, 44, 181, 0, 13, 42, 45, 181, 0, 17, 177]
abbrev dktX15_init_0 : List UInt8 := dkwX15_init_0 ++ []
theorem dksX15_init_0 : cX15_init.data.toList.drop 0 = dktX15_init_0 := by decide +kernel
theorem dX15_init_0 : decode cX15_init 0 = .ok (.aload_n 0, 1) := dk_42 (dk_at dksX15_init_0 0 rfl rfl)
theorem dX15_init_1 : decode cX15_init 1 = .ok (.invokespecial 1, 3) := dk_183 0 1 (dk_at dksX15_init_0 1 rfl rfl)
theorem dX15_init_4 : decode cX15_init 4 = .ok (.aload_n 0, 1) := dk_42 (dk_at dksX15_init_0 4 rfl rfl)
theorem dX15_init_5 : decode cX15_init 5 = .ok (.aload_n 1, 1) := dk_43 (dk_at dksX15_init_0 5 rfl rfl)
theorem dX15_init_6 : decode cX15_init 6 = .ok (.putfield 7, 3) := dk_181 0 7 (dk_at dksX15_init_0 6 rfl rfl)
theorem dX15_init_9 : decode cX15_init 9 = .ok (.aload_n 0, 1) := dk_42 (dk_at dksX15_init_0 9 rfl rfl)
theorem dX15_init_10 : decode cX15_init 10 = .ok (.aload_n 2, 1) := dk_44 (dk_at dksX15_init_0 10 rfl rfl)
theorem dX15_init_11 : decode cX15_init 11 = .ok (.putfield 13, 3) := dk_181 0 13 (dk_at dksX15_init_0 11 rfl rfl)
theorem dX15_init_14 : decode cX15_init 14 = .ok (.aload_n 0, 1) := dk_42 (dk_at dksX15_init_0 14 rfl rfl)
theorem dX15_init_15 : decode cX15_init 15 = .ok (.aload_n 3, 1) := dk_45 (dk_at dksX15_init_0 15 rfl rfl)
theorem dX15_init_16 : decode cX15_init 16 = .ok (.putfield 17, 3) := dk_181 0 17 (dk_at dksX15_init_0 16 rfl rfl)
theorem dX15_init_19 : decode cX15_init 19 = .ok (.return_, 1) := dk_177 (dk_at dksX15_init_0 19 rfl rfl)
abbrev cX15_value : ByteArray := prog_7_method_2_code
def yX15_value : MethodName := ⟨RX15, "value", "(LTemplateEngine$Context;I)LTemplateEngine$Data;"⟩
def dkwX15_value_16 : List UInt8 := [180, 0, 99, 182, 0, 106, 167, 0, 4, 1, 176]
abbrev dktX15_value_16 : List UInt8 := dkwX15_value_16 ++ []
def dkwX15_value_15 : List UInt8 := [45, 182, 0, 103, 5, 160, 0, 26, 25, 4, 193, 0, 72, 153, 0, 18, 45, 25, 4, 192, 0, 72]
abbrev dktX15_value_15 : List UInt8 := dkwX15_value_15 ++ dktX15_value_16
def dkwX15_value_14 : List UInt8 := [180, 0, 99, 25, 4, 192, 0, 72, 180, 0, 99, 96, 183, 0, 79, 167, 0, 4, 1, 176, 45, 198, 0, 34]
abbrev dktX15_value_14 : List UInt8 := dkwX15_value_14 ++ dktX15_value_15
def dkwX15_value_13 : List UInt8 := [193, 0, 72, 153, 0, 37, 25, 4, 193, 0, 72, 153, 0, 29, 187, 0, 72, 89, 45, 192, 0, 72]
abbrev dktX15_value_13 : List UInt8 := dkwX15_value_13 ++ dktX15_value_14
def dkwX15_value_12 : List UInt8 := [180, 0, 48, 45, 182, 0, 60, 43, 180, 0, 92, 25, 4, 182, 0, 60, 182, 0, 95, 184, 0, 88, 176, 45]
abbrev dktX15_value_12 : List UInt8 := dkwX15_value_12 ++ dktX15_value_13
def dkwX15_value_11 : List UInt8 := [199, 0, 7, 3, 167, 0, 7, 45, 182, 0, 74, 183, 0, 79, 176, 45, 184, 0, 82, 184, 0, 88, 176, 43]
abbrev dktX15_value_11 : List UInt8 := dkwX15_value_11 ++ dktX15_value_12
def dkwX15_value_10 : List UInt8 := [89, 45, 43, 180, 0, 48, 45, 182, 0, 60, 182, 0, 66, 183, 0, 69, 176, 187, 0, 72, 89, 45]
abbrev dktX15_value_10 : List UInt8 := dkwX15_value_10 ++ dktX15_value_11
def dkwX15_value_9 : List UInt8 := [45, 193, 0, 46, 153, 0, 17, 45, 192, 0, 46, 43, 180, 0, 48, 182, 0, 54, 167, 0, 22, 187, 0, 58]
abbrev dktX15_value_9 : List UInt8 := dkwX15_value_9 ++ dktX15_value_10
def dkwX15_value_8 : List UInt8 := [170, 0, 0, 0, 169, 0, 0, 0, 0, 0, 0, 0, 4, 0, 0, 0, 33, 0, 0, 0, 74, 0, 0, 0, 94, 0, 0, 0, 102, 0, 0, 0, 126]
abbrev dktX15_value_8 : List UInt8 := dkwX15_value_8 ++ dktX15_value_9
def dkwX15_value_7 : List UInt8 := [182, 0, 34, 153, 0, 6, 7, 54, 6, 21, 6]
abbrev dktX15_value_7 : List UInt8 := dkwX15_value_7 ++ dktX15_value_8
def dkwX15_value_6 : List UInt8 := [167, 0, 32, 25, 5, 18, 42, 182, 0, 34, 153, 0, 22, 6, 54, 6, 167, 0, 16, 25, 5, 18, 44]
abbrev dktX15_value_6 : List UInt8 := dkwX15_value_6 ++ dktX15_value_7
def dkwX15_value_5 : List UInt8 := [153, 0, 54, 4, 54, 6, 167, 0, 48, 25, 5, 18, 40, 182, 0, 34, 153, 0, 38, 5, 54, 6]
abbrev dktX15_value_5 : List UInt8 := dkwX15_value_5 ++ dktX15_value_6
def dkwX15_value_4 : List UInt8 := [25, 5, 18, 32, 182, 0, 34, 153, 0, 70, 3, 54, 6, 167, 0, 64, 25, 5, 18, 38, 182, 0, 34]
abbrev dktX15_value_4 : List UInt8 := dkwX15_value_4 ++ dktX15_value_5
def dkwX15_value_3 : List UInt8 := [171, 0, 0, 0, 0, 127, 0, 0, 0, 5, 0, 0, 12, 172, 0, 0, 0, 98, 0, 0, 14, 155, 0, 0, 0, 50, 0, 1, 120, 161, 0, 0, 0, 114, 0, 1, 162, 21, 0, 0, 0, 66, 0, 1, 170, 211, 0, 0, 0, 82]
abbrev dktX15_value_3 : List UInt8 := dkwX15_value_3 ++ dktX15_value_4
def dkwX15_value_2 : List UInt8 := [182, 0, 26]
abbrev dktX15_value_2 : List UInt8 := dkwX15_value_2 ++ dktX15_value_3
def dkwX15_value_1 : List UInt8 := [180, 0, 17, 43, 28, 185, 0, 20, 3, 0, 58, 4, 42, 180, 0, 7, 58, 5, 2, 54, 6, 25, 5]
abbrev dktX15_value_1 : List UInt8 := dkwX15_value_1 ++ dktX15_value_2
def dkwX15_value_0 : List UInt8 := [42, 180, 0, 13, 43, 28, 185, 0, 20, 3, 0, 78, 42, 180, 0, 17, 199, 0, 7, 1, 167, 0, 14, 42]
abbrev dktX15_value_0 : List UInt8 := dkwX15_value_0 ++ dktX15_value_1
theorem dksX15_value_0 : cX15_value.data.toList.drop 0 = dktX15_value_0 := by decide +kernel
theorem dksX15_value_1 : cX15_value.data.toList.drop 24 = dktX15_value_1 := dk_seg dksX15_value_0 24 rfl rfl
theorem dksX15_value_2 : cX15_value.data.toList.drop 47 = dktX15_value_2 := dk_seg dksX15_value_1 23 rfl rfl
theorem dksX15_value_3 : cX15_value.data.toList.drop 50 = dktX15_value_3 := dk_seg dksX15_value_2 3 rfl rfl
theorem dksX15_value_4 : cX15_value.data.toList.drop 100 = dktX15_value_4 := dk_seg dksX15_value_3 50 rfl rfl
theorem dksX15_value_5 : cX15_value.data.toList.drop 123 = dktX15_value_5 := dk_seg dksX15_value_4 23 rfl rfl
theorem dksX15_value_6 : cX15_value.data.toList.drop 145 = dktX15_value_6 := dk_seg dksX15_value_5 22 rfl rfl
theorem dksX15_value_7 : cX15_value.data.toList.drop 168 = dktX15_value_7 := dk_seg dksX15_value_6 23 rfl rfl
theorem dksX15_value_8 : cX15_value.data.toList.drop 179 = dktX15_value_8 := dk_seg dksX15_value_7 11 rfl rfl
theorem dksX15_value_9 : cX15_value.data.toList.drop 212 = dktX15_value_9 := dk_seg dksX15_value_8 33 rfl rfl
theorem dksX15_value_10 : cX15_value.data.toList.drop 236 = dktX15_value_10 := dk_seg dksX15_value_9 24 rfl rfl
theorem dksX15_value_11 : cX15_value.data.toList.drop 258 = dktX15_value_11 := dk_seg dksX15_value_10 22 rfl rfl
theorem dksX15_value_12 : cX15_value.data.toList.drop 282 = dktX15_value_12 := dk_seg dksX15_value_11 24 rfl rfl
theorem dksX15_value_13 : cX15_value.data.toList.drop 306 = dktX15_value_13 := dk_seg dksX15_value_12 24 rfl rfl
theorem dksX15_value_14 : cX15_value.data.toList.drop 328 = dktX15_value_14 := dk_seg dksX15_value_13 22 rfl rfl
theorem dksX15_value_15 : cX15_value.data.toList.drop 352 = dktX15_value_15 := dk_seg dksX15_value_14 24 rfl rfl
theorem dksX15_value_16 : cX15_value.data.toList.drop 374 = dktX15_value_16 := dk_seg dksX15_value_15 22 rfl rfl
theorem dX15_value_0 : decode cX15_value 0 = .ok (.aload_n 0, 1) := dk_42 (dk_at dksX15_value_0 0 rfl rfl)
theorem dX15_value_1 : decode cX15_value 1 = .ok (.getfield 13, 3) := dk_180 0 13 (dk_at dksX15_value_0 1 rfl rfl)
theorem dX15_value_4 : decode cX15_value 4 = .ok (.aload_n 1, 1) := dk_43 (dk_at dksX15_value_0 4 rfl rfl)
theorem dX15_value_5 : decode cX15_value 5 = .ok (.iload_n 2, 1) := dk_28 (dk_at dksX15_value_0 5 rfl rfl)
theorem dX15_value_6 : decode cX15_value 6 = .ok (.invokeinterface 20 3, 5) := by decide +kernel
theorem dX15_value_11 : decode cX15_value 11 = .ok (.astore_n 3, 1) := dk_78 (dk_at dksX15_value_0 11 rfl rfl)
theorem dX15_value_12 : decode cX15_value 12 = .ok (.aload_n 0, 1) := dk_42 (dk_at dksX15_value_0 12 rfl rfl)
theorem dX15_value_13 : decode cX15_value 13 = .ok (.getfield 17, 3) := dk_180 0 17 (dk_at dksX15_value_0 13 rfl rfl)
theorem dX15_value_16 : decode cX15_value 16 = .ok (.ifnonnull 7, 3) := dk_199 0 7 (dk_at dksX15_value_0 16 rfl rfl)
theorem dX15_value_19 : decode cX15_value 19 = .ok (.aconst_null, 1) := dk_1 (dk_at dksX15_value_0 19 rfl rfl)
theorem dX15_value_20 : decode cX15_value 20 = .ok (.goto 14, 3) := dk_167 0 14 (dk_at dksX15_value_0 20 rfl rfl)
theorem dX15_value_23 : decode cX15_value 23 = .ok (.aload_n 0, 1) := dk_42 (dk_at dksX15_value_0 23 rfl rfl)
theorem dX15_value_24 : decode cX15_value 24 = .ok (.getfield 17, 3) := dk_180 0 17 (dk_at dksX15_value_1 0 rfl rfl)
theorem dX15_value_27 : decode cX15_value 27 = .ok (.aload_n 1, 1) := dk_43 (dk_at dksX15_value_1 3 rfl rfl)
theorem dX15_value_28 : decode cX15_value 28 = .ok (.iload_n 2, 1) := dk_28 (dk_at dksX15_value_1 4 rfl rfl)
theorem dX15_value_29 : decode cX15_value 29 = .ok (.invokeinterface 20 3, 5) := by decide +kernel
theorem dX15_value_34 : decode cX15_value 34 = .ok (.astore 4, 2) := dk_58 4 (dk_at dksX15_value_1 10 rfl rfl)
theorem dX15_value_36 : decode cX15_value 36 = .ok (.aload_n 0, 1) := dk_42 (dk_at dksX15_value_1 12 rfl rfl)
theorem dX15_value_37 : decode cX15_value 37 = .ok (.getfield 7, 3) := dk_180 0 7 (dk_at dksX15_value_1 13 rfl rfl)
theorem dX15_value_40 : decode cX15_value 40 = .ok (.astore 5, 2) := dk_58 5 (dk_at dksX15_value_1 16 rfl rfl)
theorem dX15_value_42 : decode cX15_value 42 = .ok (.iconst (-1), 1) := dk_2 (dk_at dksX15_value_1 18 rfl rfl)
theorem dX15_value_43 : decode cX15_value 43 = .ok (.istore 6, 2) := dk_54 6 (dk_at dksX15_value_1 19 rfl rfl)
theorem dX15_value_45 : decode cX15_value 45 = .ok (.aload 5, 2) := dk_25 5 (dk_at dksX15_value_1 21 rfl rfl)
theorem dX15_value_47 : decode cX15_value 47 = .ok (.invokevirtual 26, 3) := dk_182 0 26 (dk_at dksX15_value_2 0 rfl rfl)
theorem dX15_value_50 : decode cX15_value 50 = .ok (.lookupswitch 127 #[(3244, 98), (3739, 50), (96417, 114), (107029, 66), (109267, 82)], 50) := by decide +kernel
theorem dX15_value_100 : decode cX15_value 100 = .ok (.aload 5, 2) := dk_25 5 (dk_at dksX15_value_4 0 rfl rfl)
theorem dX15_value_102 : decode cX15_value 102 = .ok (.ldc 32, 2) := dk_18 32 (dk_at dksX15_value_4 2 rfl rfl)
theorem dX15_value_104 : decode cX15_value 104 = .ok (.invokevirtual 34, 3) := dk_182 0 34 (dk_at dksX15_value_4 4 rfl rfl)
theorem dX15_value_107 : decode cX15_value 107 = .ok (.ifCond .eq 70, 3) := dk_153 0 70 (dk_at dksX15_value_4 7 rfl rfl)
theorem dX15_value_110 : decode cX15_value 110 = .ok (.iconst 0, 1) := dk_3 (dk_at dksX15_value_4 10 rfl rfl)
theorem dX15_value_111 : decode cX15_value 111 = .ok (.istore 6, 2) := dk_54 6 (dk_at dksX15_value_4 11 rfl rfl)
theorem dX15_value_113 : decode cX15_value 113 = .ok (.goto 64, 3) := dk_167 0 64 (dk_at dksX15_value_4 13 rfl rfl)
theorem dX15_value_116 : decode cX15_value 116 = .ok (.aload 5, 2) := dk_25 5 (dk_at dksX15_value_4 16 rfl rfl)
theorem dX15_value_118 : decode cX15_value 118 = .ok (.ldc 38, 2) := dk_18 38 (dk_at dksX15_value_4 18 rfl rfl)
theorem dX15_value_120 : decode cX15_value 120 = .ok (.invokevirtual 34, 3) := dk_182 0 34 (dk_at dksX15_value_4 20 rfl rfl)
theorem dX15_value_123 : decode cX15_value 123 = .ok (.ifCond .eq 54, 3) := dk_153 0 54 (dk_at dksX15_value_5 0 rfl rfl)
theorem dX15_value_126 : decode cX15_value 126 = .ok (.iconst 1, 1) := dk_4 (dk_at dksX15_value_5 3 rfl rfl)
theorem dX15_value_127 : decode cX15_value 127 = .ok (.istore 6, 2) := dk_54 6 (dk_at dksX15_value_5 4 rfl rfl)
theorem dX15_value_129 : decode cX15_value 129 = .ok (.goto 48, 3) := dk_167 0 48 (dk_at dksX15_value_5 6 rfl rfl)
theorem dX15_value_132 : decode cX15_value 132 = .ok (.aload 5, 2) := dk_25 5 (dk_at dksX15_value_5 9 rfl rfl)
theorem dX15_value_134 : decode cX15_value 134 = .ok (.ldc 40, 2) := dk_18 40 (dk_at dksX15_value_5 11 rfl rfl)
theorem dX15_value_136 : decode cX15_value 136 = .ok (.invokevirtual 34, 3) := dk_182 0 34 (dk_at dksX15_value_5 13 rfl rfl)
theorem dX15_value_139 : decode cX15_value 139 = .ok (.ifCond .eq 38, 3) := dk_153 0 38 (dk_at dksX15_value_5 16 rfl rfl)
theorem dX15_value_142 : decode cX15_value 142 = .ok (.iconst 2, 1) := dk_5 (dk_at dksX15_value_5 19 rfl rfl)
theorem dX15_value_143 : decode cX15_value 143 = .ok (.istore 6, 2) := dk_54 6 (dk_at dksX15_value_5 20 rfl rfl)
theorem dX15_value_145 : decode cX15_value 145 = .ok (.goto 32, 3) := dk_167 0 32 (dk_at dksX15_value_6 0 rfl rfl)
theorem dX15_value_148 : decode cX15_value 148 = .ok (.aload 5, 2) := dk_25 5 (dk_at dksX15_value_6 3 rfl rfl)
theorem dX15_value_150 : decode cX15_value 150 = .ok (.ldc 42, 2) := dk_18 42 (dk_at dksX15_value_6 5 rfl rfl)
theorem dX15_value_152 : decode cX15_value 152 = .ok (.invokevirtual 34, 3) := dk_182 0 34 (dk_at dksX15_value_6 7 rfl rfl)
theorem dX15_value_155 : decode cX15_value 155 = .ok (.ifCond .eq 22, 3) := dk_153 0 22 (dk_at dksX15_value_6 10 rfl rfl)
theorem dX15_value_158 : decode cX15_value 158 = .ok (.iconst 3, 1) := dk_6 (dk_at dksX15_value_6 13 rfl rfl)
theorem dX15_value_159 : decode cX15_value 159 = .ok (.istore 6, 2) := dk_54 6 (dk_at dksX15_value_6 14 rfl rfl)
theorem dX15_value_161 : decode cX15_value 161 = .ok (.goto 16, 3) := dk_167 0 16 (dk_at dksX15_value_6 16 rfl rfl)
theorem dX15_value_164 : decode cX15_value 164 = .ok (.aload 5, 2) := dk_25 5 (dk_at dksX15_value_6 19 rfl rfl)
theorem dX15_value_166 : decode cX15_value 166 = .ok (.ldc 44, 2) := dk_18 44 (dk_at dksX15_value_6 21 rfl rfl)
theorem dX15_value_168 : decode cX15_value 168 = .ok (.invokevirtual 34, 3) := dk_182 0 34 (dk_at dksX15_value_7 0 rfl rfl)
theorem dX15_value_171 : decode cX15_value 171 = .ok (.ifCond .eq 6, 3) := dk_153 0 6 (dk_at dksX15_value_7 3 rfl rfl)
theorem dX15_value_174 : decode cX15_value 174 = .ok (.iconst 4, 1) := dk_7 (dk_at dksX15_value_7 6 rfl rfl)
theorem dX15_value_175 : decode cX15_value 175 = .ok (.istore 6, 2) := dk_54 6 (dk_at dksX15_value_7 7 rfl rfl)
theorem dX15_value_177 : decode cX15_value 177 = .ok (.iload 6, 2) := dk_21 6 (dk_at dksX15_value_7 9 rfl rfl)
theorem dX15_value_179 : decode cX15_value 179 = .ok (.tableswitch 169 0 4 #[33, 74, 94, 102, 126], 33) := by decide +kernel
theorem dX15_value_212 : decode cX15_value 212 = .ok (.aload_n 3, 1) := dk_45 (dk_at dksX15_value_9 0 rfl rfl)
theorem dX15_value_213 : decode cX15_value 213 = .ok (.instanceof 46, 3) := dk_193 0 46 (dk_at dksX15_value_9 1 rfl rfl)
theorem dX15_value_216 : decode cX15_value 216 = .ok (.ifCond .eq 17, 3) := dk_153 0 17 (dk_at dksX15_value_9 4 rfl rfl)
theorem dX15_value_219 : decode cX15_value 219 = .ok (.aload_n 3, 1) := dk_45 (dk_at dksX15_value_9 7 rfl rfl)
theorem dX15_value_220 : decode cX15_value 220 = .ok (.checkcast 46, 3) := dk_192 0 46 (dk_at dksX15_value_9 8 rfl rfl)
theorem dX15_value_223 : decode cX15_value 223 = .ok (.aload_n 1, 1) := dk_43 (dk_at dksX15_value_9 11 rfl rfl)
theorem dX15_value_224 : decode cX15_value 224 = .ok (.getfield 48, 3) := dk_180 0 48 (dk_at dksX15_value_9 12 rfl rfl)
theorem dX15_value_227 : decode cX15_value 227 = .ok (.invokevirtual 54, 3) := dk_182 0 54 (dk_at dksX15_value_9 15 rfl rfl)
theorem dX15_value_230 : decode cX15_value 230 = .ok (.goto 22, 3) := dk_167 0 22 (dk_at dksX15_value_9 18 rfl rfl)
theorem dX15_value_233 : decode cX15_value 233 = .ok (.new 58, 3) := dk_187 0 58 (dk_at dksX15_value_9 21 rfl rfl)
theorem dX15_value_236 : decode cX15_value 236 = .ok (.dup, 1) := dk_89 (dk_at dksX15_value_10 0 rfl rfl)
theorem dX15_value_237 : decode cX15_value 237 = .ok (.aload_n 3, 1) := dk_45 (dk_at dksX15_value_10 1 rfl rfl)
theorem dX15_value_238 : decode cX15_value 238 = .ok (.aload_n 1, 1) := dk_43 (dk_at dksX15_value_10 2 rfl rfl)
theorem dX15_value_239 : decode cX15_value 239 = .ok (.getfield 48, 3) := dk_180 0 48 (dk_at dksX15_value_10 3 rfl rfl)
theorem dX15_value_242 : decode cX15_value 242 = .ok (.aload_n 3, 1) := dk_45 (dk_at dksX15_value_10 6 rfl rfl)
theorem dX15_value_243 : decode cX15_value 243 = .ok (.invokevirtual 60, 3) := dk_182 0 60 (dk_at dksX15_value_10 7 rfl rfl)
theorem dX15_value_246 : decode cX15_value 246 = .ok (.invokevirtual 66, 3) := dk_182 0 66 (dk_at dksX15_value_10 10 rfl rfl)
theorem dX15_value_249 : decode cX15_value 249 = .ok (.invokespecial 69, 3) := dk_183 0 69 (dk_at dksX15_value_10 13 rfl rfl)
theorem dX15_value_252 : decode cX15_value 252 = .ok (.areturn, 1) := dk_176 (dk_at dksX15_value_10 16 rfl rfl)
theorem dX15_value_253 : decode cX15_value 253 = .ok (.new 72, 3) := dk_187 0 72 (dk_at dksX15_value_10 17 rfl rfl)
theorem dX15_value_256 : decode cX15_value 256 = .ok (.dup, 1) := dk_89 (dk_at dksX15_value_10 20 rfl rfl)
theorem dX15_value_257 : decode cX15_value 257 = .ok (.aload_n 3, 1) := dk_45 (dk_at dksX15_value_10 21 rfl rfl)
theorem dX15_value_258 : decode cX15_value 258 = .ok (.ifnonnull 7, 3) := dk_199 0 7 (dk_at dksX15_value_11 0 rfl rfl)
theorem dX15_value_261 : decode cX15_value 261 = .ok (.iconst 0, 1) := dk_3 (dk_at dksX15_value_11 3 rfl rfl)
theorem dX15_value_262 : decode cX15_value 262 = .ok (.goto 7, 3) := dk_167 0 7 (dk_at dksX15_value_11 4 rfl rfl)
theorem dX15_value_265 : decode cX15_value 265 = .ok (.aload_n 3, 1) := dk_45 (dk_at dksX15_value_11 7 rfl rfl)
theorem dX15_value_266 : decode cX15_value 266 = .ok (.invokevirtual 74, 3) := dk_182 0 74 (dk_at dksX15_value_11 8 rfl rfl)
theorem dX15_value_269 : decode cX15_value 269 = .ok (.invokespecial 79, 3) := dk_183 0 79 (dk_at dksX15_value_11 11 rfl rfl)
theorem dX15_value_272 : decode cX15_value 272 = .ok (.areturn, 1) := dk_176 (dk_at dksX15_value_11 14 rfl rfl)
theorem dX15_value_273 : decode cX15_value 273 = .ok (.aload_n 3, 1) := dk_45 (dk_at dksX15_value_11 15 rfl rfl)
theorem dX15_value_274 : decode cX15_value 274 = .ok (.invokestatic 82, 3) := dk_184 0 82 (dk_at dksX15_value_11 16 rfl rfl)
theorem dX15_value_277 : decode cX15_value 277 = .ok (.invokestatic 88, 3) := dk_184 0 88 (dk_at dksX15_value_11 19 rfl rfl)
theorem dX15_value_280 : decode cX15_value 280 = .ok (.areturn, 1) := dk_176 (dk_at dksX15_value_11 22 rfl rfl)
theorem dX15_value_281 : decode cX15_value 281 = .ok (.aload_n 1, 1) := dk_43 (dk_at dksX15_value_11 23 rfl rfl)
theorem dX15_value_282 : decode cX15_value 282 = .ok (.getfield 48, 3) := dk_180 0 48 (dk_at dksX15_value_12 0 rfl rfl)
theorem dX15_value_285 : decode cX15_value 285 = .ok (.aload_n 3, 1) := dk_45 (dk_at dksX15_value_12 3 rfl rfl)
theorem dX15_value_286 : decode cX15_value 286 = .ok (.invokevirtual 60, 3) := dk_182 0 60 (dk_at dksX15_value_12 4 rfl rfl)
theorem dX15_value_289 : decode cX15_value 289 = .ok (.aload_n 1, 1) := dk_43 (dk_at dksX15_value_12 7 rfl rfl)
theorem dX15_value_290 : decode cX15_value 290 = .ok (.getfield 92, 3) := dk_180 0 92 (dk_at dksX15_value_12 8 rfl rfl)
theorem dX15_value_293 : decode cX15_value 293 = .ok (.aload 4, 2) := dk_25 4 (dk_at dksX15_value_12 11 rfl rfl)
theorem dX15_value_295 : decode cX15_value 295 = .ok (.invokevirtual 60, 3) := dk_182 0 60 (dk_at dksX15_value_12 13 rfl rfl)
theorem dX15_value_298 : decode cX15_value 298 = .ok (.invokevirtual 95, 3) := dk_182 0 95 (dk_at dksX15_value_12 16 rfl rfl)
theorem dX15_value_301 : decode cX15_value 301 = .ok (.invokestatic 88, 3) := dk_184 0 88 (dk_at dksX15_value_12 19 rfl rfl)
theorem dX15_value_304 : decode cX15_value 304 = .ok (.areturn, 1) := dk_176 (dk_at dksX15_value_12 22 rfl rfl)
theorem dX15_value_305 : decode cX15_value 305 = .ok (.aload_n 3, 1) := dk_45 (dk_at dksX15_value_12 23 rfl rfl)
theorem dX15_value_306 : decode cX15_value 306 = .ok (.instanceof 72, 3) := dk_193 0 72 (dk_at dksX15_value_13 0 rfl rfl)
theorem dX15_value_309 : decode cX15_value 309 = .ok (.ifCond .eq 37, 3) := dk_153 0 37 (dk_at dksX15_value_13 3 rfl rfl)
theorem dX15_value_312 : decode cX15_value 312 = .ok (.aload 4, 2) := dk_25 4 (dk_at dksX15_value_13 6 rfl rfl)
theorem dX15_value_314 : decode cX15_value 314 = .ok (.instanceof 72, 3) := dk_193 0 72 (dk_at dksX15_value_13 8 rfl rfl)
theorem dX15_value_317 : decode cX15_value 317 = .ok (.ifCond .eq 29, 3) := dk_153 0 29 (dk_at dksX15_value_13 11 rfl rfl)
theorem dX15_value_320 : decode cX15_value 320 = .ok (.new 72, 3) := dk_187 0 72 (dk_at dksX15_value_13 14 rfl rfl)
theorem dX15_value_323 : decode cX15_value 323 = .ok (.dup, 1) := dk_89 (dk_at dksX15_value_13 17 rfl rfl)
theorem dX15_value_324 : decode cX15_value 324 = .ok (.aload_n 3, 1) := dk_45 (dk_at dksX15_value_13 18 rfl rfl)
theorem dX15_value_325 : decode cX15_value 325 = .ok (.checkcast 72, 3) := dk_192 0 72 (dk_at dksX15_value_13 19 rfl rfl)
theorem dX15_value_328 : decode cX15_value 328 = .ok (.getfield 99, 3) := dk_180 0 99 (dk_at dksX15_value_14 0 rfl rfl)
theorem dX15_value_331 : decode cX15_value 331 = .ok (.aload 4, 2) := dk_25 4 (dk_at dksX15_value_14 3 rfl rfl)
theorem dX15_value_333 : decode cX15_value 333 = .ok (.checkcast 72, 3) := dk_192 0 72 (dk_at dksX15_value_14 5 rfl rfl)
theorem dX15_value_336 : decode cX15_value 336 = .ok (.getfield 99, 3) := dk_180 0 99 (dk_at dksX15_value_14 8 rfl rfl)
theorem dX15_value_339 : decode cX15_value 339 = .ok (.iadd, 1) := dk_96 (dk_at dksX15_value_14 11 rfl rfl)
theorem dX15_value_340 : decode cX15_value 340 = .ok (.invokespecial 79, 3) := dk_183 0 79 (dk_at dksX15_value_14 12 rfl rfl)
theorem dX15_value_343 : decode cX15_value 343 = .ok (.goto 4, 3) := dk_167 0 4 (dk_at dksX15_value_14 15 rfl rfl)
theorem dX15_value_346 : decode cX15_value 346 = .ok (.aconst_null, 1) := dk_1 (dk_at dksX15_value_14 18 rfl rfl)
theorem dX15_value_347 : decode cX15_value 347 = .ok (.areturn, 1) := dk_176 (dk_at dksX15_value_14 19 rfl rfl)
theorem dX15_value_348 : decode cX15_value 348 = .ok (.aload_n 3, 1) := dk_45 (dk_at dksX15_value_14 20 rfl rfl)
theorem dX15_value_349 : decode cX15_value 349 = .ok (.ifnull 34, 3) := dk_198 0 34 (dk_at dksX15_value_14 21 rfl rfl)
theorem dX15_value_352 : decode cX15_value 352 = .ok (.aload_n 3, 1) := dk_45 (dk_at dksX15_value_15 0 rfl rfl)
theorem dX15_value_353 : decode cX15_value 353 = .ok (.invokevirtual 103, 3) := dk_182 0 103 (dk_at dksX15_value_15 1 rfl rfl)
theorem dX15_value_356 : decode cX15_value 356 = .ok (.iconst 2, 1) := dk_5 (dk_at dksX15_value_15 4 rfl rfl)
theorem dX15_value_357 : decode cX15_value 357 = .ok (.if_icmp .ne 26, 3) := dk_160 0 26 (dk_at dksX15_value_15 5 rfl rfl)
theorem dX15_value_360 : decode cX15_value 360 = .ok (.aload 4, 2) := dk_25 4 (dk_at dksX15_value_15 8 rfl rfl)
theorem dX15_value_362 : decode cX15_value 362 = .ok (.instanceof 72, 3) := dk_193 0 72 (dk_at dksX15_value_15 10 rfl rfl)
theorem dX15_value_365 : decode cX15_value 365 = .ok (.ifCond .eq 18, 3) := dk_153 0 18 (dk_at dksX15_value_15 13 rfl rfl)
theorem dX15_value_368 : decode cX15_value 368 = .ok (.aload_n 3, 1) := dk_45 (dk_at dksX15_value_15 16 rfl rfl)
theorem dX15_value_369 : decode cX15_value 369 = .ok (.aload 4, 2) := dk_25 4 (dk_at dksX15_value_15 17 rfl rfl)
theorem dX15_value_371 : decode cX15_value 371 = .ok (.checkcast 72, 3) := dk_192 0 72 (dk_at dksX15_value_15 19 rfl rfl)
theorem dX15_value_374 : decode cX15_value 374 = .ok (.getfield 99, 3) := dk_180 0 99 (dk_at dksX15_value_16 0 rfl rfl)
theorem dX15_value_377 : decode cX15_value 377 = .ok (.invokevirtual 106, 3) := dk_182 0 106 (dk_at dksX15_value_16 3 rfl rfl)
theorem dX15_value_380 : decode cX15_value 380 = .ok (.goto 4, 3) := dk_167 0 4 (dk_at dksX15_value_16 6 rfl rfl)
theorem dX15_value_383 : decode cX15_value 383 = .ok (.aconst_null, 1) := dk_1 (dk_at dksX15_value_16 9 rfl rfl)
theorem dX15_value_384 : decode cX15_value 384 = .ok (.areturn, 1) := dk_176 (dk_at dksX15_value_16 10 rfl rfl)
abbrev cX15_truth : ByteArray := prog_7_method_3_code
def yX15_truth : MethodName := ⟨RX15, "truth", "(Z)LTemplateEngine$Data;"⟩
def dkwX15_truth_0 : List UInt8 := [178, 0, 110, 26, 153, 0, 7, 4, 167, 0, 4, 3, 50, 176]
abbrev dktX15_truth_0 : List UInt8 := dkwX15_truth_0 ++ []
theorem dksX15_truth_0 : cX15_truth.data.toList.drop 0 = dktX15_truth_0 := by decide +kernel
theorem dX15_truth_0 : decode cX15_truth 0 = .ok (.getstatic 110, 3) := dk_178 0 110 (dk_at dksX15_truth_0 0 rfl rfl)
theorem dX15_truth_3 : decode cX15_truth 3 = .ok (.iload_n 0, 1) := dk_26 (dk_at dksX15_truth_0 3 rfl rfl)
theorem dX15_truth_4 : decode cX15_truth 4 = .ok (.ifCond .eq 7, 3) := dk_153 0 7 (dk_at dksX15_truth_0 4 rfl rfl)
theorem dX15_truth_7 : decode cX15_truth 7 = .ok (.iconst 1, 1) := dk_4 (dk_at dksX15_truth_0 7 rfl rfl)
theorem dX15_truth_8 : decode cX15_truth 8 = .ok (.goto 4, 3) := dk_167 0 4 (dk_at dksX15_truth_0 8 rfl rfl)
theorem dX15_truth_11 : decode cX15_truth 11 = .ok (.iconst 0, 1) := dk_3 (dk_at dksX15_truth_0 11 rfl rfl)
theorem dX15_truth_12 : decode cX15_truth 12 = .ok (.aaload, 1) := dk_50 (dk_at dksX15_truth_0 12 rfl rfl)
theorem dX15_truth_13 : decode cX15_truth 13 = .ok (.areturn, 1) := dk_176 (dk_at dksX15_truth_0 13 rfl rfl)
theorem q112 : (Jvm.Cond.initialized "TemplateEngine$Help") ∈ lw_all := lw_g (lw_at lw_m1 41 rfl) rfl
theorem q620 : (Jvm.Cond.fieldLink "TemplateEngine$Help" (99 : Nat) "TemplateEngine$NumberData" "v" "I") ∈ lw_all := lw_g (lw_at lw_m3 69 rfl) rfl
theorem q661 : (Jvm.Cond.selects "TemplateEngine$Help" ({ cls := "java/lang/Object", name := "getClass", desc := "()Ljava/lang/Class;" } : Jvm.MethodName) ({ cls := "java/lang/Object", name := "getClass", desc := "()Ljava/lang/Class;" } : Jvm.MethodName)) ∈ lw_all := lw_g (lw_at lw_m3 110 rfl) rfl
theorem q1307 : (Jvm.Cond.instantiable "TemplateEngine$Help" (3 : Nat)) ∈ lw_all := lw_g (lw_at lw_m6 36 rfl) rfl
theorem q1309 : (Jvm.Cond.instanceMethod ({ cls := "TemplateEngine$Help", name := "<init>", desc := "(Ljava/lang/String;LTemplateEngine$Operand;LTemplateEngine$Operand;)V" } : Jvm.MethodName)) ∈ lw_all := lw_g (lw_at lw_m6 38 rfl) rfl
theorem q1310 : (Jvm.Cond.code ({ cls := "TemplateEngine$Help", name := "<init>", desc := "(Ljava/lang/String;LTemplateEngine$Operand;LTemplateEngine$Operand;)V" } : Jvm.MethodName) prog_7_method_1_code (4 : Nat) (Option.none : Option Jvm.ClassFile.FieldType)) ∈ lw_all := lw_g (lw_at lw_m6 39 rfl) rfl
theorem q1311 : (Jvm.Cond.methodLink "TemplateEngine$Help" (1 : Nat) ({ cls := "java/lang/Record", name := "<init>", desc := "()V" } : Jvm.MethodName)) ∈ lw_all := lw_g (lw_at lw_m6 40 rfl) rfl
theorem q1312 : (Jvm.Cond.fieldLink "TemplateEngine$Help" (7 : Nat) "TemplateEngine$Help" "helper" "Ljava/lang/String;") ∈ lw_all := lw_g (lw_at lw_m6 41 rfl) rfl
theorem q1313 : (Jvm.Cond.fieldLink "TemplateEngine$Help" (13 : Nat) "TemplateEngine$Help" "a" "LTemplateEngine$Operand;") ∈ lw_all := lw_g (lw_at lw_m6 42 rfl) rfl
theorem q1314 : (Jvm.Cond.fieldLink "TemplateEngine$Help" (17 : Nat) "TemplateEngine$Help" "b" "LTemplateEngine$Operand;") ∈ lw_all := lw_g (lw_at lw_m6 43 rfl) rfl
theorem q1315 : (Jvm.Cond.laysFinal "TemplateEngine$Help" "TemplateEngine$Help" "helper" "Ljava/lang/String;") ∈ lw_all := lw_g (lw_at lw_m6 44 rfl) rfl
theorem q1316 : (Jvm.Cond.soleField "TemplateEngine$Help" "helper") ∈ lw_all := lw_g (lw_at lw_m6 45 rfl) rfl
theorem q1317 : (Jvm.Cond.laysFinal "TemplateEngine$Help" "TemplateEngine$Help" "a" "LTemplateEngine$Operand;") ∈ lw_all := lw_g (lw_at lw_m6 46 rfl) rfl
theorem q1318 : (Jvm.Cond.soleField "TemplateEngine$Help" "a") ∈ lw_all := lw_g (lw_at lw_m6 47 rfl) rfl
theorem q1319 : (Jvm.Cond.laysFinal "TemplateEngine$Help" "TemplateEngine$Help" "b" "LTemplateEngine$Operand;") ∈ lw_all := lw_g (lw_at lw_m6 48 rfl) rfl
theorem q1320 : (Jvm.Cond.soleField "TemplateEngine$Help" "b") ∈ lw_all := lw_g (lw_at lw_m6 49 rfl) rfl
theorem q1321 : (Jvm.Cond.superclass "TemplateEngine$Help" "java/lang/Record") ∈ lw_all := lw_g (lw_at lw_m6 50 rfl) rfl
theorem q1458 : (Jvm.Cond.fieldLink "TemplateEngine$Help" (48 : Nat) "TemplateEngine$Context" "first" "LTemplateEngine$Output;") ∈ lw_all := lw_g (lw_at lw_m6 187 rfl) rfl
theorem q1460 : (Jvm.Cond.fieldLink "TemplateEngine$Help" (92 : Nat) "TemplateEngine$Context" "second" "LTemplateEngine$Output;") ∈ lw_all := lw_g (lw_at lw_m6 189 rfl) rfl
theorem q1513 : (Jvm.Cond.castable "TemplateEngine$Help" "TemplateEngine$Operand") ∈ lw_tbl := lw_at lw_m7 2 rfl
theorem q1514 : (Jvm.Cond.selects "TemplateEngine$Help" ({ cls := "TemplateEngine$Operand", name := "value", desc := "(LTemplateEngine$Context;I)LTemplateEngine$Data;" } : Jvm.MethodName) ({ cls := "TemplateEngine$Help", name := "value", desc := "(LTemplateEngine$Context;I)LTemplateEngine$Data;" } : Jvm.MethodName)) ∈ lw_all := lw_g (lw_at lw_m7 3 rfl) rfl
theorem q1515 : (Jvm.Cond.unhidden "TemplateEngine$Help" "value" "(LTemplateEngine$Context;I)LTemplateEngine$Data;") ∈ lw_tbl := lw_at lw_m7 4 rfl
theorem q1516 : (Jvm.Cond.instanceMethod ({ cls := "TemplateEngine$Help", name := "value", desc := "(LTemplateEngine$Context;I)LTemplateEngine$Data;" } : Jvm.MethodName)) ∈ lw_all := lw_g (lw_at lw_m7 5 rfl) rfl
theorem q1517 : (Jvm.Cond.publicMethod ({ cls := "TemplateEngine$Help", name := "value", desc := "(LTemplateEngine$Context;I)LTemplateEngine$Data;" } : Jvm.MethodName)) ∈ lw_tbl := lw_at lw_m7 6 rfl
theorem q1518 : (Jvm.Cond.code ({ cls := "TemplateEngine$Help", name := "value", desc := "(LTemplateEngine$Context;I)LTemplateEngine$Data;" } : Jvm.MethodName) prog_7_method_2_code (7 : Nat) (Option.some (Jvm.ClassFile.FieldType.object "TemplateEngine$Data"))) ∈ lw_all := lw_g (lw_at lw_m7 7 rfl) rfl
theorem q1519 : (Jvm.Cond.interfaceEntry "TemplateEngine$Help" (20 : Nat)) ∈ lw_tbl := lw_at lw_m7 8 rfl
theorem q1520 : (Jvm.Cond.methodLink "TemplateEngine$Help" (20 : Nat) ({ cls := "TemplateEngine$Operand", name := "value", desc := "(LTemplateEngine$Context;I)LTemplateEngine$Data;" } : Jvm.MethodName)) ∈ lw_all := lw_g (lw_at lw_m7 9 rfl) rfl
theorem q1550 : (Jvm.Cond.methodLink "TemplateEngine$Help" (26 : Nat) ({ cls := "java/lang/String", name := "hashCode", desc := "()I" } : Jvm.MethodName)) ∈ lw_all := lw_g (lw_at lw_m7 39 rfl) rfl
theorem q1551 : (Jvm.Cond.stringRef "TemplateEngine$Help" (32 : Nat) "up") ∈ lw_tbl := lw_at lw_m7 40 rfl
theorem q1552 : (Jvm.Cond.methodLink "TemplateEngine$Help" (34 : Nat) ({ cls := "java/lang/String", name := "equals", desc := "(Ljava/lang/Object;)Z" } : Jvm.MethodName)) ∈ lw_all := lw_g (lw_at lw_m7 41 rfl) rfl
theorem q1553 : (Jvm.Cond.stringRef "TemplateEngine$Help" (38 : Nat) "len") ∈ lw_tbl := lw_at lw_m7 42 rfl
theorem q1554 : (Jvm.Cond.stringRef "TemplateEngine$Help" (40 : Nat) "not") ∈ lw_tbl := lw_at lw_m7 43 rfl
theorem q1555 : (Jvm.Cond.stringRef "TemplateEngine$Help" (42 : Nat) "eq") ∈ lw_tbl := lw_at lw_m7 44 rfl
theorem q1556 : (Jvm.Cond.stringRef "TemplateEngine$Help" (44 : Nat) "add") ∈ lw_tbl := lw_at lw_m7 45 rfl
theorem q1557 : (Jvm.Cond.classLink "TemplateEngine$Help" (46 : Nat) "TemplateEngine$TextData") ∈ lw_all := lw_g (lw_at lw_m7 46 rfl) rfl
theorem q1558 : (Jvm.Cond.methodLink "TemplateEngine$Help" (54 : Nat) ({ cls := "TemplateEngine$TextData", name := "inCapitals", desc := "(LTemplateEngine$Output;)LTemplateEngine$TextData;" } : Jvm.MethodName)) ∈ lw_all := lw_g (lw_at lw_m7 47 rfl) rfl
theorem q1637 : (Jvm.Cond.classLink "TemplateEngine$Help" (58 : Nat) "TemplateEngine$Capitals") ∈ lw_all := lw_g (lw_at lw_m7 126 rfl) rfl
theorem q1639 : (Jvm.Cond.methodLink "TemplateEngine$Help" (60 : Nat) ({ cls := "TemplateEngine$Output", name := "of", desc := "(LTemplateEngine$Data;)LTemplateEngine$Output;" } : Jvm.MethodName)) ∈ lw_all := lw_g (lw_at lw_m7 128 rfl) rfl
theorem q1640 : (Jvm.Cond.methodLink "TemplateEngine$Help" (66 : Nat) ({ cls := "TemplateEngine$Output", name := "length", desc := "()I" } : Jvm.MethodName)) ∈ lw_all := lw_g (lw_at lw_m7 129 rfl) rfl
theorem q1641 : (Jvm.Cond.methodLink "TemplateEngine$Help" (69 : Nat) ({ cls := "TemplateEngine$Capitals", name := "<init>", desc := "(LTemplateEngine$Data;I)V" } : Jvm.MethodName)) ∈ lw_all := lw_g (lw_at lw_m7 130 rfl) rfl
theorem q1653 : (Jvm.Cond.classLink "TemplateEngine$Help" (72 : Nat) "TemplateEngine$NumberData") ∈ lw_all := lw_g (lw_at lw_m7 142 rfl) rfl
theorem q1654 : (Jvm.Cond.methodLink "TemplateEngine$Help" (74 : Nat) ({ cls := "TemplateEngine$Data", name := "size", desc := "()I" } : Jvm.MethodName)) ∈ lw_all := lw_g (lw_at lw_m7 143 rfl) rfl
theorem q1672 : (Jvm.Cond.methodLink "TemplateEngine$Help" (79 : Nat) ({ cls := "TemplateEngine$NumberData", name := "<init>", desc := "(I)V" } : Jvm.MethodName)) ∈ lw_all := lw_g (lw_at lw_m7 161 rfl) rfl
theorem q1673 : (Jvm.Cond.methodLinkNest "TemplateEngine$Help" (82 : Nat) ({ cls := "TemplateEngine", name := "isFalse", desc := "(LTemplateEngine$Data;)Z" } : Jvm.MethodName) "TemplateEngine") ∈ lw_tbl := lw_at lw_m7 162 rfl
theorem q1695 : (Jvm.Cond.methodLink "TemplateEngine$Help" (88 : Nat) ({ cls := "TemplateEngine$Help", name := "truth", desc := "(Z)LTemplateEngine$Data;" } : Jvm.MethodName)) ∈ lw_all := lw_g (lw_at lw_m7 184 rfl) rfl
theorem q1696 : (Jvm.Cond.static ({ cls := "TemplateEngine$Help", name := "truth", desc := "(Z)LTemplateEngine$Data;" } : Jvm.MethodName)) ∈ lw_all := lw_g (lw_at lw_m7 185 rfl) rfl
theorem q1697 : (Jvm.Cond.code ({ cls := "TemplateEngine$Help", name := "truth", desc := "(Z)LTemplateEngine$Data;" } : Jvm.MethodName) prog_7_method_3_code (1 : Nat) (Option.some (Jvm.ClassFile.FieldType.object "TemplateEngine$Data"))) ∈ lw_all := lw_g (lw_at lw_m7 186 rfl) rfl
theorem q1698 : (Jvm.Cond.fieldLinkNest "TemplateEngine$Help" (110 : Nat) "TemplateEngine" "DIGITS" "[LTemplateEngine$NumberData;" "TemplateEngine") ∈ lw_tbl := lw_at lw_m7 187 rfl
theorem q1699 : (Jvm.Cond.methodLink "TemplateEngine$Help" (95 : Nat) ({ cls := "TemplateEngine$Output", name := "isLike", desc := "(LTemplateEngine$Output;)Z" } : Jvm.MethodName)) ∈ lw_all := lw_g (lw_at lw_m7 188 rfl) rfl
theorem q1703 : (Jvm.Cond.methodLink "TemplateEngine$Help" (103 : Nat) ({ cls := "TemplateEngine$Data", name := "kind", desc := "()I" } : Jvm.MethodName)) ∈ lw_all := lw_g (lw_at lw_m7 192 rfl) rfl
theorem q1704 : (Jvm.Cond.methodLink "TemplateEngine$Help" (106 : Nat) ({ cls := "TemplateEngine$Data", name := "element", desc := "(I)LTemplateEngine$Data;" } : Jvm.MethodName)) ∈ lw_all := lw_g (lw_at lw_m7 193 rfl) rfl
theorem q2309 : (Jvm.Cond.castable "TemplateEngine$Help" "java/lang/Object") ∈ lw_tbl := lw_at lw_m10 78 rfl
theorem in_X15 : ∀ w ∈ wsX150, w ∈ lw_all := lw_in wsX150 [1315, 1317, 1319] (by decide +kernel) (by decide +kernel)

/-! TemplateEngine$Remark -/
set_option maxRecDepth 100000
def RX16 : String := "TemplateEngine$Remark"
abbrev cX16_init : ByteArray := prog_18_method_1_code
def yX16_init : MethodName := ⟨RX16, "<init>", "()V"⟩
theorem dX16_init_0 : decode cX16_init 0 = .ok (.aload_n 0, 1) := by decide +kernel
theorem dX16_init_1 : decode cX16_init 1 = .ok (.invokespecial 1, 3) := by decide +kernel
theorem dX16_init_4 : decode cX16_init 4 = .ok (.return_, 1) := by decide +kernel
abbrev cX16_render : ByteArray := prog_18_method_2_code
def yX16_render : MethodName := ⟨RX16, "render", "(LTemplateEngine$Rendering;LTemplateEngine$Context;I)V"⟩
theorem dX16_render_0 : decode cX16_render 0 = .ok (.aload_n 1, 1) := by decide +kernel
theorem dX16_render_1 : decode cX16_render 1 = .ok (.invokevirtual 7, 3) := by decide +kernel
theorem dX16_render_4 : decode cX16_render 4 = .ok (.return_, 1) := by decide +kernel
theorem q113 : (Jvm.Cond.initialized "TemplateEngine$Remark") ∈ lw_all := lw_g (lw_at lw_m1 42 rfl) rfl
theorem q670 : (Jvm.Cond.selects "TemplateEngine$Remark" ({ cls := "java/lang/Object", name := "getClass", desc := "()Ljava/lang/Class;" } : Jvm.MethodName) ({ cls := "java/lang/Object", name := "getClass", desc := "()Ljava/lang/Class;" } : Jvm.MethodName)) ∈ lw_all := lw_g (lw_at lw_m3 119 rfl) rfl
theorem q1339 : (Jvm.Cond.instantiable "TemplateEngine$Remark" (0 : Nat)) ∈ lw_all := lw_g (lw_at lw_m6 68 rfl) rfl
theorem q1341 : (Jvm.Cond.instanceMethod ({ cls := "TemplateEngine$Remark", name := "<init>", desc := "()V" } : Jvm.MethodName)) ∈ lw_all := lw_g (lw_at lw_m6 70 rfl) rfl
theorem q1342 : (Jvm.Cond.code ({ cls := "TemplateEngine$Remark", name := "<init>", desc := "()V" } : Jvm.MethodName) prog_18_method_1_code (1 : Nat) (Option.none : Option Jvm.ClassFile.FieldType)) ∈ lw_all := lw_g (lw_at lw_m6 71 rfl) rfl
theorem q1343 : (Jvm.Cond.methodLink "TemplateEngine$Remark" (1 : Nat) ({ cls := "java/lang/Record", name := "<init>", desc := "()V" } : Jvm.MethodName)) ∈ lw_all := lw_g (lw_at lw_m6 72 rfl) rfl
theorem q1344 : (Jvm.Cond.superclass "TemplateEngine$Remark" "java/lang/Record") ∈ lw_all := lw_g (lw_at lw_m6 73 rfl) rfl
theorem q1734 : (Jvm.Cond.castable "TemplateEngine$Remark" "TemplateEngine$Part") ∈ lw_tbl := lw_at lw_m7 223 rfl
theorem q1735 : (Jvm.Cond.selects "TemplateEngine$Remark" ({ cls := "TemplateEngine$Part", name := "render", desc := "(LTemplateEngine$Rendering;LTemplateEngine$Context;I)V" } : Jvm.MethodName) ({ cls := "TemplateEngine$Remark", name := "render", desc := "(LTemplateEngine$Rendering;LTemplateEngine$Context;I)V" } : Jvm.MethodName)) ∈ lw_all := lw_g (lw_at lw_m7 224 rfl) rfl
theorem q1736 : (Jvm.Cond.unhidden "TemplateEngine$Remark" "render" "(LTemplateEngine$Rendering;LTemplateEngine$Context;I)V") ∈ lw_tbl := lw_at lw_m7 225 rfl
theorem q1737 : (Jvm.Cond.instanceMethod ({ cls := "TemplateEngine$Remark", name := "render", desc := "(LTemplateEngine$Rendering;LTemplateEngine$Context;I)V" } : Jvm.MethodName)) ∈ lw_all := lw_g (lw_at lw_m7 226 rfl) rfl
theorem q1738 : (Jvm.Cond.publicMethod ({ cls := "TemplateEngine$Remark", name := "render", desc := "(LTemplateEngine$Rendering;LTemplateEngine$Context;I)V" } : Jvm.MethodName)) ∈ lw_tbl := lw_at lw_m7 227 rfl
theorem q1739 : (Jvm.Cond.code ({ cls := "TemplateEngine$Remark", name := "render", desc := "(LTemplateEngine$Rendering;LTemplateEngine$Context;I)V" } : Jvm.MethodName) prog_18_method_2_code (4 : Nat) (Option.none : Option Jvm.ClassFile.FieldType)) ∈ lw_all := lw_g (lw_at lw_m7 228 rfl) rfl
theorem q1740 : (Jvm.Cond.methodLink "TemplateEngine$Remark" (7 : Nat) ({ cls := "TemplateEngine$Rendering", name := "tag", desc := "()V" } : Jvm.MethodName)) ∈ lw_all := lw_g (lw_at lw_m7 229 rfl) rfl
theorem q2310 : (Jvm.Cond.castable "TemplateEngine$Remark" "java/lang/Object") ∈ lw_tbl := lw_at lw_m10 79 rfl

/-! TemplateEngine$Block -/
set_option maxRecDepth 100000
def RX17 : String := "TemplateEngine$Block"
def TX17 : u_T := fun k => match k with
  | 0 => ("TemplateEngine$Block", "sort", "Ljava/lang/String;", true)
  | 1 => ("TemplateEngine$Block", "value", "LTemplateEngine$Operand;", true)
  | 2 => ("TemplateEngine$Block", "first", "[LTemplateEngine$Part;", true)
  | _ => ("TemplateEngine$Block", "other", "[LTemplateEngine$Part;", true)
def tyX17 : Nat → FieldType := fun k => match k with
  | 0 => .object "java/lang/String"
  | 1 => .object "TemplateEngine$Operand"
  | 2 => .array (.object "TemplateEngine$Part")
  | _ => .array (.object "TemplateEngine$Part")
abbrev wsX170 : List Cond := u_ws RX17 TX17 4
theorem nmX17 : ∀ a, a < 4 → ∀ b, b < 4 → a ≠ b → (TX17 a).2.1 ≠ (TX17 b).2.1 := by decide +kernel
theorem tyX17_ok : ∀ k, k < 4 → parseFieldDescriptor (TX17 k).2.2.1 = some (tyX17 k) := by decide +kernel
abbrev cX17_init : ByteArray := prog_2_method_1_code
def yX17_init : MethodName := ⟨RX17, "<init>", "(Ljava/lang/String;LTemplateEngine$Operand;[LTemplateEngine$Part;[LTemplateEngine$Part;)V"⟩
def dkwX17_init_1 : List UInt8 := [181, 0, 21, 177]
abbrev dktX17_init_1 : List UInt8 := dkwX17_init_1 ++ []
def dkwX17_init_0 : List UInt8 := [42, 183, 0, 1, 42, 43, 181, 0, 7, 42, 44, 181, 0, 13, 42, 45, 181, 0, 17, 42, 25, 4]
abbrev dktX17_init_0 : List UInt8 := dkwX17_init_0 ++ dktX17_init_1
theorem dksX17_init_0 : cX17_init.data.toList.drop 0 = dktX17_init_0 := by decide +kernel
theorem dksX17_init_1 : cX17_init.data.toList.drop 22 = dktX17_init_1 := dk_seg dksX17_init_0 22 rfl rfl
theorem dX17_init_0 : decode cX17_init 0 = .ok (.aload_n 0, 1) := dk_42 (dk_at dksX17_init_0 0 rfl rfl)
theorem dX17_init_1 : decode cX17_init 1 = .ok (.invokespecial 1, 3) := dk_183 0 1 (dk_at dksX17_init_0 1 rfl rfl)
theorem dX17_init_4 : decode cX17_init 4 = .ok (.aload_n 0, 1) := dk_42 (dk_at dksX17_init_0 4 rfl rfl)
theorem dX17_init_5 : decode cX17_init 5 = .ok (.aload_n 1, 1) := dk_43 (dk_at dksX17_init_0 5 rfl rfl)
theorem dX17_init_6 : decode cX17_init 6 = .ok (.putfield 7, 3) := dk_181 0 7 (dk_at dksX17_init_0 6 rfl rfl)
theorem dX17_init_9 : decode cX17_init 9 = .ok (.aload_n 0, 1) := dk_42 (dk_at dksX17_init_0 9 rfl rfl)
theorem dX17_init_10 : decode cX17_init 10 = .ok (.aload_n 2, 1) := dk_44 (dk_at dksX17_init_0 10 rfl rfl)
theorem dX17_init_11 : decode cX17_init 11 = .ok (.putfield 13, 3) := dk_181 0 13 (dk_at dksX17_init_0 11 rfl rfl)
theorem dX17_init_14 : decode cX17_init 14 = .ok (.aload_n 0, 1) := dk_42 (dk_at dksX17_init_0 14 rfl rfl)
theorem dX17_init_15 : decode cX17_init 15 = .ok (.aload_n 3, 1) := dk_45 (dk_at dksX17_init_0 15 rfl rfl)
theorem dX17_init_16 : decode cX17_init 16 = .ok (.putfield 17, 3) := dk_181 0 17 (dk_at dksX17_init_0 16 rfl rfl)
theorem dX17_init_19 : decode cX17_init 19 = .ok (.aload_n 0, 1) := dk_42 (dk_at dksX17_init_0 19 rfl rfl)
theorem dX17_init_20 : decode cX17_init 20 = .ok (.aload 4, 2) := dk_25 4 (dk_at dksX17_init_0 20 rfl rfl)
theorem dX17_init_22 : decode cX17_init 22 = .ok (.putfield 21, 3) := dk_181 0 21 (dk_at dksX17_init_1 0 rfl rfl)
theorem dX17_init_25 : decode cX17_init 25 = .ok (.return_, 1) := dk_177 (dk_at dksX17_init_1 3 rfl rfl)
abbrev cX17_render : ByteArray := prog_2_method_2_code
def yX17_render : MethodName := ⟨RX17, "render", "(LTemplateEngine$Rendering;LTemplateEngine$Context;I)V"⟩
def dkwX17_render_11 : List UInt8 := [154, 0, 13, 43, 42, 180, 0, 21, 44, 29, 182, 0, 54, 177]
abbrev dktX17_render_11 : List UInt8 := dkwX17_render_11 ++ []
def dkwX17_render_10 : List UInt8 := [25, 4, 21, 8, 182, 0, 68, 182, 0, 58, 21, 8, 182, 0, 54, 132, 8, 1, 167, 255, 225, 21, 7]
abbrev dktX17_render_10 : List UInt8 := dkwX17_render_10 ++ dktX17_render_11
def dkwX17_render_9 : List UInt8 := [25, 4, 182, 0, 63, 54, 7, 3, 54, 8, 21, 8, 21, 7, 162, 0, 30, 43, 42, 180, 0, 17, 44]
abbrev dktX17_render_9 : List UInt8 := dkwX17_render_9 ++ dktX17_render_10
def dkwX17_render_8 : List UInt8 := [180, 0, 17, 44, 25, 4, 182, 0, 58, 29, 182, 0, 54, 177, 25, 4, 199, 0, 7, 3, 167, 0, 8]
abbrev dktX17_render_8 : List UInt8 := dkwX17_render_8 ++ dktX17_render_9
def dkwX17_render_7 : List UInt8 := [182, 0, 54, 177, 25, 4, 199, 0, 16, 43, 42, 180, 0, 21, 44, 29, 182, 0, 54, 167, 0, 18, 43, 42]
abbrev dktX17_render_7 : List UInt8 := dkwX17_render_7 ++ dktX17_render_8
def dkwX17_render_6 : List UInt8 := [43, 25, 4, 184, 0, 48, 153, 0, 10, 42, 180, 0, 21, 167, 0, 7, 42, 180, 0, 17, 44, 29]
abbrev dktX17_render_6 : List UInt8 := dkwX17_render_6 ++ dktX17_render_7
def dkwX17_render_5 : List UInt8 := [171, 0, 0, 0, 85, 0, 0, 0, 2, 0, 0, 0, 0, 0, 0, 0, 25, 0, 0, 0, 1, 0, 0, 0, 51]
abbrev dktX17_render_5 : List UInt8 := dkwX17_render_5 ++ dktX17_render_6
def dkwX17_render_4 : List UInt8 := [153, 0, 6, 4, 54, 6, 21, 6]
abbrev dktX17_render_4 : List UInt8 := dkwX17_render_4 ++ dktX17_render_5
def dkwX17_render_3 : List UInt8 := [25, 5, 18, 40, 182, 0, 42, 153, 0, 22, 3, 54, 6, 167, 0, 16, 25, 5, 18, 46, 182, 0, 42]
abbrev dktX17_render_3 : List UInt8 := dkwX17_render_3 ++ dktX17_render_4
def dkwX17_render_2 : List UInt8 := [171, 0, 0, 0, 54, 0, 0, 0, 2, 0, 0, 13, 29, 0, 0, 0, 25, 0, 55, 176, 198, 0, 0, 0, 41]
abbrev dktX17_render_2 : List UInt8 := dkwX17_render_2 ++ dktX17_render_3
def dkwX17_render_1 : List UInt8 := [54, 6, 25, 5, 182, 0, 34]
abbrev dktX17_render_1 : List UInt8 := dkwX17_render_1 ++ dktX17_render_2
def dkwX17_render_0 : List UInt8 := [43, 182, 0, 24, 42, 180, 0, 13, 44, 29, 185, 0, 29, 3, 0, 58, 4, 42, 180, 0, 7, 58, 5, 2]
abbrev dktX17_render_0 : List UInt8 := dkwX17_render_0 ++ dktX17_render_1
theorem dksX17_render_0 : cX17_render.data.toList.drop 0 = dktX17_render_0 := by decide +kernel
theorem dksX17_render_1 : cX17_render.data.toList.drop 24 = dktX17_render_1 := dk_seg dksX17_render_0 24 rfl rfl
theorem dksX17_render_2 : cX17_render.data.toList.drop 31 = dktX17_render_2 := dk_seg dksX17_render_1 7 rfl rfl
theorem dksX17_render_3 : cX17_render.data.toList.drop 56 = dktX17_render_3 := dk_seg dksX17_render_2 25 rfl rfl
theorem dksX17_render_4 : cX17_render.data.toList.drop 79 = dktX17_render_4 := dk_seg dksX17_render_3 23 rfl rfl
theorem dksX17_render_5 : cX17_render.data.toList.drop 87 = dktX17_render_5 := dk_seg dksX17_render_4 8 rfl rfl
theorem dksX17_render_6 : cX17_render.data.toList.drop 112 = dktX17_render_6 := dk_seg dksX17_render_5 25 rfl rfl
theorem dksX17_render_7 : cX17_render.data.toList.drop 134 = dktX17_render_7 := dk_seg dksX17_render_6 22 rfl rfl
theorem dksX17_render_8 : cX17_render.data.toList.drop 158 = dktX17_render_8 := dk_seg dksX17_render_7 24 rfl rfl
theorem dksX17_render_9 : cX17_render.data.toList.drop 181 = dktX17_render_9 := dk_seg dksX17_render_8 23 rfl rfl
theorem dksX17_render_10 : cX17_render.data.toList.drop 204 = dktX17_render_10 := dk_seg dksX17_render_9 23 rfl rfl
theorem dksX17_render_11 : cX17_render.data.toList.drop 227 = dktX17_render_11 := dk_seg dksX17_render_10 23 rfl rfl
theorem dX17_render_0 : decode cX17_render 0 = .ok (.aload_n 1, 1) := dk_43 (dk_at dksX17_render_0 0 rfl rfl)
theorem dX17_render_1 : decode cX17_render 1 = .ok (.invokevirtual 24, 3) := dk_182 0 24 (dk_at dksX17_render_0 1 rfl rfl)
theorem dX17_render_4 : decode cX17_render 4 = .ok (.aload_n 0, 1) := dk_42 (dk_at dksX17_render_0 4 rfl rfl)
theorem dX17_render_5 : decode cX17_render 5 = .ok (.getfield 13, 3) := dk_180 0 13 (dk_at dksX17_render_0 5 rfl rfl)
theorem dX17_render_8 : decode cX17_render 8 = .ok (.aload_n 2, 1) := dk_44 (dk_at dksX17_render_0 8 rfl rfl)
theorem dX17_render_9 : decode cX17_render 9 = .ok (.iload_n 3, 1) := dk_29 (dk_at dksX17_render_0 9 rfl rfl)
theorem dX17_render_10 : decode cX17_render 10 = .ok (.invokeinterface 29 3, 5) := by decide +kernel
theorem dX17_render_15 : decode cX17_render 15 = .ok (.astore 4, 2) := dk_58 4 (dk_at dksX17_render_0 15 rfl rfl)
theorem dX17_render_17 : decode cX17_render 17 = .ok (.aload_n 0, 1) := dk_42 (dk_at dksX17_render_0 17 rfl rfl)
theorem dX17_render_18 : decode cX17_render 18 = .ok (.getfield 7, 3) := dk_180 0 7 (dk_at dksX17_render_0 18 rfl rfl)
theorem dX17_render_21 : decode cX17_render 21 = .ok (.astore 5, 2) := dk_58 5 (dk_at dksX17_render_0 21 rfl rfl)
theorem dX17_render_23 : decode cX17_render 23 = .ok (.iconst (-1), 1) := dk_2 (dk_at dksX17_render_0 23 rfl rfl)
theorem dX17_render_24 : decode cX17_render 24 = .ok (.istore 6, 2) := dk_54 6 (dk_at dksX17_render_1 0 rfl rfl)
theorem dX17_render_26 : decode cX17_render 26 = .ok (.aload 5, 2) := dk_25 5 (dk_at dksX17_render_1 2 rfl rfl)
theorem dX17_render_28 : decode cX17_render 28 = .ok (.invokevirtual 34, 3) := dk_182 0 34 (dk_at dksX17_render_1 4 rfl rfl)
theorem dX17_render_31 : decode cX17_render 31 = .ok (.lookupswitch 54 #[(3357, 25), (3649734, 41)], 25) := by decide +kernel
theorem dX17_render_56 : decode cX17_render 56 = .ok (.aload 5, 2) := dk_25 5 (dk_at dksX17_render_3 0 rfl rfl)
theorem dX17_render_58 : decode cX17_render 58 = .ok (.ldc 40, 2) := dk_18 40 (dk_at dksX17_render_3 2 rfl rfl)
theorem dX17_render_60 : decode cX17_render 60 = .ok (.invokevirtual 42, 3) := dk_182 0 42 (dk_at dksX17_render_3 4 rfl rfl)
theorem dX17_render_63 : decode cX17_render 63 = .ok (.ifCond .eq 22, 3) := dk_153 0 22 (dk_at dksX17_render_3 7 rfl rfl)
theorem dX17_render_66 : decode cX17_render 66 = .ok (.iconst 0, 1) := dk_3 (dk_at dksX17_render_3 10 rfl rfl)
theorem dX17_render_67 : decode cX17_render 67 = .ok (.istore 6, 2) := dk_54 6 (dk_at dksX17_render_3 11 rfl rfl)
theorem dX17_render_69 : decode cX17_render 69 = .ok (.goto 16, 3) := dk_167 0 16 (dk_at dksX17_render_3 13 rfl rfl)
theorem dX17_render_72 : decode cX17_render 72 = .ok (.aload 5, 2) := dk_25 5 (dk_at dksX17_render_3 16 rfl rfl)
theorem dX17_render_74 : decode cX17_render 74 = .ok (.ldc 46, 2) := dk_18 46 (dk_at dksX17_render_3 18 rfl rfl)
theorem dX17_render_76 : decode cX17_render 76 = .ok (.invokevirtual 42, 3) := dk_182 0 42 (dk_at dksX17_render_3 20 rfl rfl)
theorem dX17_render_79 : decode cX17_render 79 = .ok (.ifCond .eq 6, 3) := dk_153 0 6 (dk_at dksX17_render_4 0 rfl rfl)
theorem dX17_render_82 : decode cX17_render 82 = .ok (.iconst 1, 1) := dk_4 (dk_at dksX17_render_4 3 rfl rfl)
theorem dX17_render_83 : decode cX17_render 83 = .ok (.istore 6, 2) := dk_54 6 (dk_at dksX17_render_4 4 rfl rfl)
theorem dX17_render_85 : decode cX17_render 85 = .ok (.iload 6, 2) := dk_21 6 (dk_at dksX17_render_4 6 rfl rfl)
theorem dX17_render_87 : decode cX17_render 87 = .ok (.lookupswitch 85 #[(0, 25), (1, 51)], 25) := by decide +kernel
theorem dX17_render_112 : decode cX17_render 112 = .ok (.aload_n 1, 1) := dk_43 (dk_at dksX17_render_6 0 rfl rfl)
theorem dX17_render_113 : decode cX17_render 113 = .ok (.aload 4, 2) := dk_25 4 (dk_at dksX17_render_6 1 rfl rfl)
theorem dX17_render_115 : decode cX17_render 115 = .ok (.invokestatic 48, 3) := dk_184 0 48 (dk_at dksX17_render_6 3 rfl rfl)
theorem dX17_render_118 : decode cX17_render 118 = .ok (.ifCond .eq 10, 3) := dk_153 0 10 (dk_at dksX17_render_6 6 rfl rfl)
theorem dX17_render_121 : decode cX17_render 121 = .ok (.aload_n 0, 1) := dk_42 (dk_at dksX17_render_6 9 rfl rfl)
theorem dX17_render_122 : decode cX17_render 122 = .ok (.getfield 21, 3) := dk_180 0 21 (dk_at dksX17_render_6 10 rfl rfl)
theorem dX17_render_125 : decode cX17_render 125 = .ok (.goto 7, 3) := dk_167 0 7 (dk_at dksX17_render_6 13 rfl rfl)
theorem dX17_render_128 : decode cX17_render 128 = .ok (.aload_n 0, 1) := dk_42 (dk_at dksX17_render_6 16 rfl rfl)
theorem dX17_render_129 : decode cX17_render 129 = .ok (.getfield 17, 3) := dk_180 0 17 (dk_at dksX17_render_6 17 rfl rfl)
theorem dX17_render_132 : decode cX17_render 132 = .ok (.aload_n 2, 1) := dk_44 (dk_at dksX17_render_6 20 rfl rfl)
theorem dX17_render_133 : decode cX17_render 133 = .ok (.iload_n 3, 1) := dk_29 (dk_at dksX17_render_6 21 rfl rfl)
theorem dX17_render_134 : decode cX17_render 134 = .ok (.invokevirtual 54, 3) := dk_182 0 54 (dk_at dksX17_render_7 0 rfl rfl)
theorem dX17_render_137 : decode cX17_render 137 = .ok (.return_, 1) := dk_177 (dk_at dksX17_render_7 3 rfl rfl)
theorem dX17_render_138 : decode cX17_render 138 = .ok (.aload 4, 2) := dk_25 4 (dk_at dksX17_render_7 4 rfl rfl)
theorem dX17_render_140 : decode cX17_render 140 = .ok (.ifnonnull 16, 3) := dk_199 0 16 (dk_at dksX17_render_7 6 rfl rfl)
theorem dX17_render_143 : decode cX17_render 143 = .ok (.aload_n 1, 1) := dk_43 (dk_at dksX17_render_7 9 rfl rfl)
theorem dX17_render_144 : decode cX17_render 144 = .ok (.aload_n 0, 1) := dk_42 (dk_at dksX17_render_7 10 rfl rfl)
theorem dX17_render_145 : decode cX17_render 145 = .ok (.getfield 21, 3) := dk_180 0 21 (dk_at dksX17_render_7 11 rfl rfl)
theorem dX17_render_148 : decode cX17_render 148 = .ok (.aload_n 2, 1) := dk_44 (dk_at dksX17_render_7 14 rfl rfl)
theorem dX17_render_149 : decode cX17_render 149 = .ok (.iload_n 3, 1) := dk_29 (dk_at dksX17_render_7 15 rfl rfl)
theorem dX17_render_150 : decode cX17_render 150 = .ok (.invokevirtual 54, 3) := dk_182 0 54 (dk_at dksX17_render_7 16 rfl rfl)
theorem dX17_render_153 : decode cX17_render 153 = .ok (.goto 18, 3) := dk_167 0 18 (dk_at dksX17_render_7 19 rfl rfl)
theorem dX17_render_156 : decode cX17_render 156 = .ok (.aload_n 1, 1) := dk_43 (dk_at dksX17_render_7 22 rfl rfl)
theorem dX17_render_157 : decode cX17_render 157 = .ok (.aload_n 0, 1) := dk_42 (dk_at dksX17_render_7 23 rfl rfl)
theorem dX17_render_158 : decode cX17_render 158 = .ok (.getfield 17, 3) := dk_180 0 17 (dk_at dksX17_render_8 0 rfl rfl)
theorem dX17_render_161 : decode cX17_render 161 = .ok (.aload_n 2, 1) := dk_44 (dk_at dksX17_render_8 3 rfl rfl)
theorem dX17_render_162 : decode cX17_render 162 = .ok (.aload 4, 2) := dk_25 4 (dk_at dksX17_render_8 4 rfl rfl)
theorem dX17_render_164 : decode cX17_render 164 = .ok (.invokevirtual 58, 3) := dk_182 0 58 (dk_at dksX17_render_8 6 rfl rfl)
theorem dX17_render_167 : decode cX17_render 167 = .ok (.iload_n 3, 1) := dk_29 (dk_at dksX17_render_8 9 rfl rfl)
theorem dX17_render_168 : decode cX17_render 168 = .ok (.invokevirtual 54, 3) := dk_182 0 54 (dk_at dksX17_render_8 10 rfl rfl)
theorem dX17_render_171 : decode cX17_render 171 = .ok (.return_, 1) := dk_177 (dk_at dksX17_render_8 13 rfl rfl)
theorem dX17_render_172 : decode cX17_render 172 = .ok (.aload 4, 2) := dk_25 4 (dk_at dksX17_render_8 14 rfl rfl)
theorem dX17_render_174 : decode cX17_render 174 = .ok (.ifnonnull 7, 3) := dk_199 0 7 (dk_at dksX17_render_8 16 rfl rfl)
theorem dX17_render_177 : decode cX17_render 177 = .ok (.iconst 0, 1) := dk_3 (dk_at dksX17_render_8 19 rfl rfl)
theorem dX17_render_178 : decode cX17_render 178 = .ok (.goto 8, 3) := dk_167 0 8 (dk_at dksX17_render_8 20 rfl rfl)
theorem dX17_render_181 : decode cX17_render 181 = .ok (.aload 4, 2) := dk_25 4 (dk_at dksX17_render_9 0 rfl rfl)
theorem dX17_render_183 : decode cX17_render 183 = .ok (.invokevirtual 63, 3) := dk_182 0 63 (dk_at dksX17_render_9 2 rfl rfl)
theorem dX17_render_186 : decode cX17_render 186 = .ok (.istore 7, 2) := dk_54 7 (dk_at dksX17_render_9 5 rfl rfl)
theorem dX17_render_188 : decode cX17_render 188 = .ok (.iconst 0, 1) := dk_3 (dk_at dksX17_render_9 7 rfl rfl)
theorem dX17_render_189 : decode cX17_render 189 = .ok (.istore 8, 2) := dk_54 8 (dk_at dksX17_render_9 8 rfl rfl)
theorem dX17_render_191 : decode cX17_render 191 = .ok (.iload 8, 2) := dk_21 8 (dk_at dksX17_render_9 10 rfl rfl)
theorem dX17_render_193 : decode cX17_render 193 = .ok (.iload 7, 2) := dk_21 7 (dk_at dksX17_render_9 12 rfl rfl)
theorem dX17_render_195 : decode cX17_render 195 = .ok (.if_icmp .ge 30, 3) := dk_162 0 30 (dk_at dksX17_render_9 14 rfl rfl)
theorem dX17_render_198 : decode cX17_render 198 = .ok (.aload_n 1, 1) := dk_43 (dk_at dksX17_render_9 17 rfl rfl)
theorem dX17_render_199 : decode cX17_render 199 = .ok (.aload_n 0, 1) := dk_42 (dk_at dksX17_render_9 18 rfl rfl)
theorem dX17_render_200 : decode cX17_render 200 = .ok (.getfield 17, 3) := dk_180 0 17 (dk_at dksX17_render_9 19 rfl rfl)
theorem dX17_render_203 : decode cX17_render 203 = .ok (.aload_n 2, 1) := dk_44 (dk_at dksX17_render_9 22 rfl rfl)
theorem dX17_render_204 : decode cX17_render 204 = .ok (.aload 4, 2) := dk_25 4 (dk_at dksX17_render_10 0 rfl rfl)
theorem dX17_render_206 : decode cX17_render 206 = .ok (.iload 8, 2) := dk_21 8 (dk_at dksX17_render_10 2 rfl rfl)
theorem dX17_render_208 : decode cX17_render 208 = .ok (.invokevirtual 68, 3) := dk_182 0 68 (dk_at dksX17_render_10 4 rfl rfl)
theorem dX17_render_211 : decode cX17_render 211 = .ok (.invokevirtual 58, 3) := dk_182 0 58 (dk_at dksX17_render_10 7 rfl rfl)
theorem dX17_render_214 : decode cX17_render 214 = .ok (.iload 8, 2) := dk_21 8 (dk_at dksX17_render_10 10 rfl rfl)
theorem dX17_render_216 : decode cX17_render 216 = .ok (.invokevirtual 54, 3) := dk_182 0 54 (dk_at dksX17_render_10 12 rfl rfl)
theorem dX17_render_219 : decode cX17_render 219 = .ok (.iinc 8 1, 3) := dk_132 8 1 (dk_at dksX17_render_10 15 rfl rfl)
theorem dX17_render_222 : decode cX17_render 222 = .ok (.goto (-31), 3) := dk_167 255 225 (dk_at dksX17_render_10 18 rfl rfl)
theorem dX17_render_225 : decode cX17_render 225 = .ok (.iload 7, 2) := dk_21 7 (dk_at dksX17_render_10 21 rfl rfl)
theorem dX17_render_227 : decode cX17_render 227 = .ok (.ifCond .ne 13, 3) := dk_154 0 13 (dk_at dksX17_render_11 0 rfl rfl)
theorem dX17_render_230 : decode cX17_render 230 = .ok (.aload_n 1, 1) := dk_43 (dk_at dksX17_render_11 3 rfl rfl)
theorem dX17_render_231 : decode cX17_render 231 = .ok (.aload_n 0, 1) := dk_42 (dk_at dksX17_render_11 4 rfl rfl)
theorem dX17_render_232 : decode cX17_render 232 = .ok (.getfield 21, 3) := dk_180 0 21 (dk_at dksX17_render_11 5 rfl rfl)
theorem dX17_render_235 : decode cX17_render 235 = .ok (.aload_n 2, 1) := dk_44 (dk_at dksX17_render_11 8 rfl rfl)
theorem dX17_render_236 : decode cX17_render 236 = .ok (.iload_n 3, 1) := dk_29 (dk_at dksX17_render_11 9 rfl rfl)
theorem dX17_render_237 : decode cX17_render 237 = .ok (.invokevirtual 54, 3) := dk_182 0 54 (dk_at dksX17_render_11 10 rfl rfl)
theorem dX17_render_240 : decode cX17_render 240 = .ok (.return_, 1) := dk_177 (dk_at dksX17_render_11 13 rfl rfl)
theorem q114 : (Jvm.Cond.initialized "TemplateEngine$Block") ∈ lw_all := lw_g (lw_at lw_m1 43 rfl) rfl
theorem q657 : (Jvm.Cond.selects "TemplateEngine$Block" ({ cls := "java/lang/Object", name := "getClass", desc := "()Ljava/lang/Class;" } : Jvm.MethodName) ({ cls := "java/lang/Object", name := "getClass", desc := "()Ljava/lang/Class;" } : Jvm.MethodName)) ∈ lw_all := lw_g (lw_at lw_m3 106 rfl) rfl
theorem q1359 : (Jvm.Cond.instantiable "TemplateEngine$Block" (4 : Nat)) ∈ lw_all := lw_g (lw_at lw_m6 88 rfl) rfl
theorem q1361 : (Jvm.Cond.instanceMethod ({ cls := "TemplateEngine$Block", name := "<init>", desc := "(Ljava/lang/String;LTemplateEngine$Operand;[LTemplateEngine$Part;[LTemplateEngine$Part;)V" } : Jvm.MethodName)) ∈ lw_all := lw_g (lw_at lw_m6 90 rfl) rfl
theorem q1362 : (Jvm.Cond.code ({ cls := "TemplateEngine$Block", name := "<init>", desc := "(Ljava/lang/String;LTemplateEngine$Operand;[LTemplateEngine$Part;[LTemplateEngine$Part;)V" } : Jvm.MethodName) prog_2_method_1_code (5 : Nat) (Option.none : Option Jvm.ClassFile.FieldType)) ∈ lw_all := lw_g (lw_at lw_m6 91 rfl) rfl
theorem q1363 : (Jvm.Cond.methodLink "TemplateEngine$Block" (1 : Nat) ({ cls := "java/lang/Record", name := "<init>", desc := "()V" } : Jvm.MethodName)) ∈ lw_all := lw_g (lw_at lw_m6 92 rfl) rfl
theorem q1364 : (Jvm.Cond.fieldLink "TemplateEngine$Block" (7 : Nat) "TemplateEngine$Block" "sort" "Ljava/lang/String;") ∈ lw_all := lw_g (lw_at lw_m6 93 rfl) rfl
theorem q1365 : (Jvm.Cond.fieldLink "TemplateEngine$Block" (13 : Nat) "TemplateEngine$Block" "value" "LTemplateEngine$Operand;") ∈ lw_all := lw_g (lw_at lw_m6 94 rfl) rfl
theorem q1366 : (Jvm.Cond.fieldLink "TemplateEngine$Block" (17 : Nat) "TemplateEngine$Block" "first" "[LTemplateEngine$Part;") ∈ lw_all := lw_g (lw_at lw_m6 95 rfl) rfl
theorem q1367 : (Jvm.Cond.fieldLink "TemplateEngine$Block" (21 : Nat) "TemplateEngine$Block" "other" "[LTemplateEngine$Part;") ∈ lw_all := lw_g (lw_at lw_m6 96 rfl) rfl
theorem q1368 : (Jvm.Cond.laysFinal "TemplateEngine$Block" "TemplateEngine$Block" "sort" "Ljava/lang/String;") ∈ lw_all := lw_g (lw_at lw_m6 97 rfl) rfl
theorem q1369 : (Jvm.Cond.soleField "TemplateEngine$Block" "sort") ∈ lw_all := lw_g (lw_at lw_m6 98 rfl) rfl
theorem q1370 : (Jvm.Cond.laysFinal "TemplateEngine$Block" "TemplateEngine$Block" "value" "LTemplateEngine$Operand;") ∈ lw_all := lw_g (lw_at lw_m6 99 rfl) rfl
theorem q1371 : (Jvm.Cond.soleField "TemplateEngine$Block" "value") ∈ lw_all := lw_g (lw_at lw_m6 100 rfl) rfl
theorem q1372 : (Jvm.Cond.laysFinal "TemplateEngine$Block" "TemplateEngine$Block" "first" "[LTemplateEngine$Part;") ∈ lw_all := lw_g (lw_at lw_m6 101 rfl) rfl
theorem q1373 : (Jvm.Cond.soleField "TemplateEngine$Block" "first") ∈ lw_all := lw_g (lw_at lw_m6 102 rfl) rfl
theorem q1374 : (Jvm.Cond.laysFinal "TemplateEngine$Block" "TemplateEngine$Block" "other" "[LTemplateEngine$Part;") ∈ lw_all := lw_g (lw_at lw_m6 103 rfl) rfl
theorem q1375 : (Jvm.Cond.soleField "TemplateEngine$Block" "other") ∈ lw_all := lw_g (lw_at lw_m6 104 rfl) rfl
theorem q1376 : (Jvm.Cond.superclass "TemplateEngine$Block" "java/lang/Record") ∈ lw_all := lw_g (lw_at lw_m6 105 rfl) rfl
theorem q1491 : (Jvm.Cond.castable "TemplateEngine$Block" "TemplateEngine$Part") ∈ lw_tbl := lw_at lw_m6 220 rfl
theorem q1492 : (Jvm.Cond.selects "TemplateEngine$Block" ({ cls := "TemplateEngine$Part", name := "render", desc := "(LTemplateEngine$Rendering;LTemplateEngine$Context;I)V" } : Jvm.MethodName) ({ cls := "TemplateEngine$Block", name := "render", desc := "(LTemplateEngine$Rendering;LTemplateEngine$Context;I)V" } : Jvm.MethodName)) ∈ lw_all := lw_g (lw_at lw_m6 221 rfl) rfl
theorem q1493 : (Jvm.Cond.unhidden "TemplateEngine$Block" "render" "(LTemplateEngine$Rendering;LTemplateEngine$Context;I)V") ∈ lw_tbl := lw_at lw_m6 222 rfl
theorem q1494 : (Jvm.Cond.instanceMethod ({ cls := "TemplateEngine$Block", name := "render", desc := "(LTemplateEngine$Rendering;LTemplateEngine$Context;I)V" } : Jvm.MethodName)) ∈ lw_all := lw_g (lw_at lw_m6 223 rfl) rfl
theorem q1495 : (Jvm.Cond.publicMethod ({ cls := "TemplateEngine$Block", name := "render", desc := "(LTemplateEngine$Rendering;LTemplateEngine$Context;I)V" } : Jvm.MethodName)) ∈ lw_tbl := lw_at lw_m6 224 rfl
theorem q1496 : (Jvm.Cond.code ({ cls := "TemplateEngine$Block", name := "render", desc := "(LTemplateEngine$Rendering;LTemplateEngine$Context;I)V" } : Jvm.MethodName) prog_2_method_2_code (9 : Nat) (Option.none : Option Jvm.ClassFile.FieldType)) ∈ lw_all := lw_g (lw_at lw_m6 225 rfl) rfl
theorem q1497 : (Jvm.Cond.methodLink "TemplateEngine$Block" (24 : Nat) ({ cls := "TemplateEngine$Rendering", name := "tag", desc := "()V" } : Jvm.MethodName)) ∈ lw_all := lw_g (lw_at lw_m6 226 rfl) rfl
theorem q1503 : (Jvm.Cond.interfaceEntry "TemplateEngine$Block" (29 : Nat)) ∈ lw_tbl := lw_at lw_m6 232 rfl
theorem q1504 : (Jvm.Cond.methodLink "TemplateEngine$Block" (29 : Nat) ({ cls := "TemplateEngine$Operand", name := "value", desc := "(LTemplateEngine$Context;I)LTemplateEngine$Data;" } : Jvm.MethodName)) ∈ lw_all := lw_g (lw_at lw_m6 233 rfl) rfl
theorem q1705 : (Jvm.Cond.methodLink "TemplateEngine$Block" (34 : Nat) ({ cls := "java/lang/String", name := "hashCode", desc := "()I" } : Jvm.MethodName)) ∈ lw_all := lw_g (lw_at lw_m7 194 rfl) rfl
theorem q1706 : (Jvm.Cond.stringRef "TemplateEngine$Block" (40 : Nat) "if") ∈ lw_tbl := lw_at lw_m7 195 rfl
theorem q1707 : (Jvm.Cond.methodLink "TemplateEngine$Block" (42 : Nat) ({ cls := "java/lang/String", name := "equals", desc := "(Ljava/lang/Object;)Z" } : Jvm.MethodName)) ∈ lw_all := lw_g (lw_at lw_m7 196 rfl) rfl
theorem q1708 : (Jvm.Cond.stringRef "TemplateEngine$Block" (46 : Nat) "with") ∈ lw_tbl := lw_at lw_m7 197 rfl
theorem q1709 : (Jvm.Cond.methodLinkNest "TemplateEngine$Block" (48 : Nat) ({ cls := "TemplateEngine", name := "isFalse", desc := "(LTemplateEngine$Data;)Z" } : Jvm.MethodName) "TemplateEngine") ∈ lw_tbl := lw_at lw_m7 198 rfl
theorem q1710 : (Jvm.Cond.methodLink "TemplateEngine$Block" (54 : Nat) ({ cls := "TemplateEngine$Rendering", name := "render", desc := "([LTemplateEngine$Part;LTemplateEngine$Context;I)V" } : Jvm.MethodName)) ∈ lw_all := lw_g (lw_at lw_m7 199 rfl) rfl
theorem q1711 : (Jvm.Cond.methodLink "TemplateEngine$Block" (58 : Nat) ({ cls := "TemplateEngine$Context", name := "with", desc := "(LTemplateEngine$Data;)LTemplateEngine$Context;" } : Jvm.MethodName)) ∈ lw_all := lw_g (lw_at lw_m7 200 rfl) rfl
theorem q1717 : (Jvm.Cond.methodLink "TemplateEngine$Block" (63 : Nat) ({ cls := "TemplateEngine$Data", name := "turns", desc := "()I" } : Jvm.MethodName)) ∈ lw_all := lw_g (lw_at lw_m7 206 rfl) rfl
theorem q1718 : (Jvm.Cond.methodLink "TemplateEngine$Block" (68 : Nat) ({ cls := "TemplateEngine$Data", name := "element", desc := "(I)LTemplateEngine$Data;" } : Jvm.MethodName)) ∈ lw_all := lw_g (lw_at lw_m7 207 rfl) rfl
theorem q2311 : (Jvm.Cond.castable "TemplateEngine$Block" "java/lang/Object") ∈ lw_tbl := lw_at lw_m10 80 rfl
theorem in_X17 : ∀ w ∈ wsX170, w ∈ lw_all := lw_in wsX170 [1368, 1370, 1372, 1374] (by decide +kernel) (by decide +kernel)

/-! TemplateEngine$Partial -/
set_option maxRecDepth 100000
def RX18 : String := "TemplateEngine$Partial"
def TX18 : u_T := fun k => match k with
  | _ => ("TemplateEngine$Partial", "k", "I", true)
def tyX18 : Nat → FieldType := fun k => match k with
  | _ => .int
abbrev wsX180 : List Cond := u_ws RX18 TX18 1
theorem nmX18 : ∀ a, a < 1 → ∀ b, b < 1 → a ≠ b → (TX18 a).2.1 ≠ (TX18 b).2.1 := by decide +kernel
theorem tyX18_ok : ∀ k, k < 1 → parseFieldDescriptor (TX18 k).2.2.1 = some (tyX18 k) := by decide +kernel
abbrev cX18_init : ByteArray := prog_15_method_1_code
def yX18_init : MethodName := ⟨RX18, "<init>", "(I)V"⟩
def dkwX18_init_0 : List UInt8 := [42, 183, 0, 1, 42, 27, 181, 0, 7, 177]
abbrev dktX18_init_0 : List UInt8 := dkwX18_init_0 ++ []
theorem dksX18_init_0 : cX18_init.data.toList.drop 0 = dktX18_init_0 := by decide +kernel
theorem dX18_init_0 : decode cX18_init 0 = .ok (.aload_n 0, 1) := dk_42 (dk_at dksX18_init_0 0 rfl rfl)
theorem dX18_init_1 : decode cX18_init 1 = .ok (.invokespecial 1, 3) := dk_183 0 1 (dk_at dksX18_init_0 1 rfl rfl)
theorem dX18_init_4 : decode cX18_init 4 = .ok (.aload_n 0, 1) := dk_42 (dk_at dksX18_init_0 4 rfl rfl)
theorem dX18_init_5 : decode cX18_init 5 = .ok (.iload_n 1, 1) := dk_27 (dk_at dksX18_init_0 5 rfl rfl)
theorem dX18_init_6 : decode cX18_init 6 = .ok (.putfield 7, 3) := dk_181 0 7 (dk_at dksX18_init_0 6 rfl rfl)
theorem dX18_init_9 : decode cX18_init 9 = .ok (.return_, 1) := dk_177 (dk_at dksX18_init_0 9 rfl rfl)
abbrev cX18_render : ByteArray := prog_15_method_2_code
def yX18_render : MethodName := ⟨RX18, "render", "(LTemplateEngine$Rendering;LTemplateEngine$Context;I)V"⟩
def dkwX18_render_0 : List UInt8 := [43, 182, 0, 13, 43, 42, 180, 0, 7, 44, 182, 0, 18, 177]
abbrev dktX18_render_0 : List UInt8 := dkwX18_render_0 ++ []
theorem dksX18_render_0 : cX18_render.data.toList.drop 0 = dktX18_render_0 := by decide +kernel
theorem dX18_render_0 : decode cX18_render 0 = .ok (.aload_n 1, 1) := dk_43 (dk_at dksX18_render_0 0 rfl rfl)
theorem dX18_render_1 : decode cX18_render 1 = .ok (.invokevirtual 13, 3) := dk_182 0 13 (dk_at dksX18_render_0 1 rfl rfl)
theorem dX18_render_4 : decode cX18_render 4 = .ok (.aload_n 1, 1) := dk_43 (dk_at dksX18_render_0 4 rfl rfl)
theorem dX18_render_5 : decode cX18_render 5 = .ok (.aload_n 0, 1) := dk_42 (dk_at dksX18_render_0 5 rfl rfl)
theorem dX18_render_6 : decode cX18_render 6 = .ok (.getfield 7, 3) := dk_180 0 7 (dk_at dksX18_render_0 6 rfl rfl)
theorem dX18_render_9 : decode cX18_render 9 = .ok (.aload_n 2, 1) := dk_44 (dk_at dksX18_render_0 9 rfl rfl)
theorem dX18_render_10 : decode cX18_render 10 = .ok (.invokevirtual 18, 3) := dk_182 0 18 (dk_at dksX18_render_0 10 rfl rfl)
theorem dX18_render_13 : decode cX18_render 13 = .ok (.return_, 1) := dk_177 (dk_at dksX18_render_0 13 rfl rfl)
theorem q115 : (Jvm.Cond.initialized "TemplateEngine$Partial") ∈ lw_all := lw_g (lw_at lw_m1 44 rfl) rfl
theorem q667 : (Jvm.Cond.selects "TemplateEngine$Partial" ({ cls := "java/lang/Object", name := "getClass", desc := "()Ljava/lang/Class;" } : Jvm.MethodName) ({ cls := "java/lang/Object", name := "getClass", desc := "()Ljava/lang/Class;" } : Jvm.MethodName)) ∈ lw_all := lw_g (lw_at lw_m3 116 rfl) rfl
theorem q1383 : (Jvm.Cond.instantiable "TemplateEngine$Partial" (1 : Nat)) ∈ lw_all := lw_g (lw_at lw_m6 112 rfl) rfl
theorem q1385 : (Jvm.Cond.instanceMethod ({ cls := "TemplateEngine$Partial", name := "<init>", desc := "(I)V" } : Jvm.MethodName)) ∈ lw_all := lw_g (lw_at lw_m6 114 rfl) rfl
theorem q1386 : (Jvm.Cond.code ({ cls := "TemplateEngine$Partial", name := "<init>", desc := "(I)V" } : Jvm.MethodName) prog_15_method_1_code (2 : Nat) (Option.none : Option Jvm.ClassFile.FieldType)) ∈ lw_all := lw_g (lw_at lw_m6 115 rfl) rfl
theorem q1387 : (Jvm.Cond.methodLink "TemplateEngine$Partial" (1 : Nat) ({ cls := "java/lang/Record", name := "<init>", desc := "()V" } : Jvm.MethodName)) ∈ lw_all := lw_g (lw_at lw_m6 116 rfl) rfl
theorem q1388 : (Jvm.Cond.fieldLink "TemplateEngine$Partial" (7 : Nat) "TemplateEngine$Partial" "k" "I") ∈ lw_all := lw_g (lw_at lw_m6 117 rfl) rfl
theorem q1389 : (Jvm.Cond.laysFinal "TemplateEngine$Partial" "TemplateEngine$Partial" "k" "I") ∈ lw_all := lw_g (lw_at lw_m6 118 rfl) rfl
theorem q1390 : (Jvm.Cond.soleField "TemplateEngine$Partial" "k") ∈ lw_all := lw_g (lw_at lw_m6 119 rfl) rfl
theorem q1391 : (Jvm.Cond.superclass "TemplateEngine$Partial" "java/lang/Record") ∈ lw_all := lw_g (lw_at lw_m6 120 rfl) rfl
theorem q1719 : (Jvm.Cond.castable "TemplateEngine$Partial" "TemplateEngine$Part") ∈ lw_tbl := lw_at lw_m7 208 rfl
theorem q1720 : (Jvm.Cond.selects "TemplateEngine$Partial" ({ cls := "TemplateEngine$Part", name := "render", desc := "(LTemplateEngine$Rendering;LTemplateEngine$Context;I)V" } : Jvm.MethodName) ({ cls := "TemplateEngine$Partial", name := "render", desc := "(LTemplateEngine$Rendering;LTemplateEngine$Context;I)V" } : Jvm.MethodName)) ∈ lw_all := lw_g (lw_at lw_m7 209 rfl) rfl
theorem q1721 : (Jvm.Cond.unhidden "TemplateEngine$Partial" "render" "(LTemplateEngine$Rendering;LTemplateEngine$Context;I)V") ∈ lw_tbl := lw_at lw_m7 210 rfl
theorem q1722 : (Jvm.Cond.instanceMethod ({ cls := "TemplateEngine$Partial", name := "render", desc := "(LTemplateEngine$Rendering;LTemplateEngine$Context;I)V" } : Jvm.MethodName)) ∈ lw_all := lw_g (lw_at lw_m7 211 rfl) rfl
theorem q1723 : (Jvm.Cond.publicMethod ({ cls := "TemplateEngine$Partial", name := "render", desc := "(LTemplateEngine$Rendering;LTemplateEngine$Context;I)V" } : Jvm.MethodName)) ∈ lw_tbl := lw_at lw_m7 212 rfl
theorem q1724 : (Jvm.Cond.code ({ cls := "TemplateEngine$Partial", name := "render", desc := "(LTemplateEngine$Rendering;LTemplateEngine$Context;I)V" } : Jvm.MethodName) prog_15_method_2_code (4 : Nat) (Option.none : Option Jvm.ClassFile.FieldType)) ∈ lw_all := lw_g (lw_at lw_m7 213 rfl) rfl
theorem q1725 : (Jvm.Cond.methodLink "TemplateEngine$Partial" (13 : Nat) ({ cls := "TemplateEngine$Rendering", name := "tag", desc := "()V" } : Jvm.MethodName)) ∈ lw_all := lw_g (lw_at lw_m7 214 rfl) rfl
theorem q1726 : (Jvm.Cond.methodLink "TemplateEngine$Partial" (18 : Nat) ({ cls := "TemplateEngine$Rendering", name := "template", desc := "(ILTemplateEngine$Context;)V" } : Jvm.MethodName)) ∈ lw_all := lw_g (lw_at lw_m7 215 rfl) rfl
theorem q2312 : (Jvm.Cond.castable "TemplateEngine$Partial" "java/lang/Object") ∈ lw_tbl := lw_at lw_m10 81 rfl
theorem in_X18 : ∀ w ∈ wsX180, w ∈ lw_all := lw_in wsX180 [1389] (by decide +kernel) (by decide +kernel)

/-! TemplateEngine$Rendering -/
set_option maxRecDepth 100000
def RX19 : String := "TemplateEngine$Rendering"
def TX19 : u_T := fun k => match k with
  | 0 => ("TemplateEngine$Rendering", "engine", "LTemplateEngine;", true)
  | 1 => ("TemplateEngine$Rendering", "out", "LTemplateEngine$Output;", true)
  | 2 => ("TemplateEngine$Rendering", "tags", "I", false)
  | _ => ("TemplateEngine$Rendering", "depth", "I", false)
def tyX19 : Nat → FieldType := fun k => match k with
  | 0 => .object "TemplateEngine"
  | 1 => .object "TemplateEngine$Output"
  | 2 => .int
  | _ => .int
abbrev wsX190 : List Cond := u_ws RX19 TX19 4
theorem nmX19 : ∀ a, a < 4 → ∀ b, b < 4 → a ≠ b → (TX19 a).2.1 ≠ (TX19 b).2.1 := by decide +kernel
theorem tyX19_ok : ∀ k, k < 4 → parseFieldDescriptor (TX19 k).2.2.1 = some (tyX19 k) := by decide +kernel
abbrev cX19_init : ByteArray := prog_19_method_1_code
def yX19_init : MethodName := ⟨RX19, "<init>", "(LTemplateEngine;)V"⟩
def dkwX19_init_0 : List UInt8 := [42, 183, 0, 3, 42, 187, 0, 9, 89, 183, 0, 11, 181, 0, 12, 42, 43, 181, 0, 18, 177]
abbrev dktX19_init_0 : List UInt8 := dkwX19_init_0 ++ []
theorem dksX19_init_0 : cX19_init.data.toList.drop 0 = dktX19_init_0 := by decide +kernel
theorem dX19_init_0 : decode cX19_init 0 = .ok (.aload_n 0, 1) := dk_42 (dk_at dksX19_init_0 0 rfl rfl)
theorem dX19_init_1 : decode cX19_init 1 = .ok (.invokespecial 3, 3) := dk_183 0 3 (dk_at dksX19_init_0 1 rfl rfl)
theorem dX19_init_4 : decode cX19_init 4 = .ok (.aload_n 0, 1) := dk_42 (dk_at dksX19_init_0 4 rfl rfl)
theorem dX19_init_5 : decode cX19_init 5 = .ok (.new 9, 3) := dk_187 0 9 (dk_at dksX19_init_0 5 rfl rfl)
theorem dX19_init_8 : decode cX19_init 8 = .ok (.dup, 1) := dk_89 (dk_at dksX19_init_0 8 rfl rfl)
theorem dX19_init_9 : decode cX19_init 9 = .ok (.invokespecial 11, 3) := dk_183 0 11 (dk_at dksX19_init_0 9 rfl rfl)
theorem dX19_init_12 : decode cX19_init 12 = .ok (.putfield 12, 3) := dk_181 0 12 (dk_at dksX19_init_0 12 rfl rfl)
theorem dX19_init_15 : decode cX19_init 15 = .ok (.aload_n 0, 1) := dk_42 (dk_at dksX19_init_0 15 rfl rfl)
theorem dX19_init_16 : decode cX19_init 16 = .ok (.aload_n 1, 1) := dk_43 (dk_at dksX19_init_0 16 rfl rfl)
theorem dX19_init_17 : decode cX19_init 17 = .ok (.putfield 18, 3) := dk_181 0 18 (dk_at dksX19_init_0 17 rfl rfl)
theorem dX19_init_20 : decode cX19_init 20 = .ok (.return_, 1) := dk_177 (dk_at dksX19_init_0 20 rfl rfl)
abbrev cX19_template : ByteArray := prog_19_method_4_code
def yX19_template : MethodName := ⟨RX19, "template", "(ILTemplateEngine$Context;)V"⟩
def dkwX19_template_2 : List UInt8 := [180, 0, 18, 180, 0, 35, 27, 50, 44, 2, 182, 0, 48, 42, 89, 180, 0, 42, 4, 100, 181, 0, 42, 177]
abbrev dktX19_template_2 : List UInt8 := dkwX19_template_2 ++ []
def dkwX19_template_1 : List UInt8 := [6, 160, 0, 11, 187, 0, 45, 89, 183, 0, 47, 191, 42, 89, 180, 0, 42, 4, 96, 181, 0, 42, 42, 42]
abbrev dktX19_template_1 : List UInt8 := dkwX19_template_1 ++ dktX19_template_2
def dkwX19_template_0 : List UInt8 := [42, 180, 0, 18, 180, 0, 35, 27, 50, 199, 0, 11, 187, 0, 39, 89, 183, 0, 41, 191, 42, 180, 0, 42]
abbrev dktX19_template_0 : List UInt8 := dkwX19_template_0 ++ dktX19_template_1
theorem dksX19_template_0 : cX19_template.data.toList.drop 0 = dktX19_template_0 := by decide +kernel
theorem dksX19_template_1 : cX19_template.data.toList.drop 24 = dktX19_template_1 := dk_seg dksX19_template_0 24 rfl rfl
theorem dksX19_template_2 : cX19_template.data.toList.drop 48 = dktX19_template_2 := dk_seg dksX19_template_1 24 rfl rfl
theorem dX19_template_0 : decode cX19_template 0 = .ok (.aload_n 0, 1) := dk_42 (dk_at dksX19_template_0 0 rfl rfl)
theorem dX19_template_1 : decode cX19_template 1 = .ok (.getfield 18, 3) := dk_180 0 18 (dk_at dksX19_template_0 1 rfl rfl)
theorem dX19_template_4 : decode cX19_template 4 = .ok (.getfield 35, 3) := dk_180 0 35 (dk_at dksX19_template_0 4 rfl rfl)
theorem dX19_template_7 : decode cX19_template 7 = .ok (.iload_n 1, 1) := dk_27 (dk_at dksX19_template_0 7 rfl rfl)
theorem dX19_template_8 : decode cX19_template 8 = .ok (.aaload, 1) := dk_50 (dk_at dksX19_template_0 8 rfl rfl)
theorem dX19_template_9 : decode cX19_template 9 = .ok (.ifnonnull 11, 3) := dk_199 0 11 (dk_at dksX19_template_0 9 rfl rfl)
theorem dX19_template_12 : decode cX19_template 12 = .ok (.new 39, 3) := dk_187 0 39 (dk_at dksX19_template_0 12 rfl rfl)
theorem dX19_template_15 : decode cX19_template 15 = .ok (.dup, 1) := dk_89 (dk_at dksX19_template_0 15 rfl rfl)
theorem dX19_template_16 : decode cX19_template 16 = .ok (.invokespecial 41, 3) := dk_183 0 41 (dk_at dksX19_template_0 16 rfl rfl)
theorem dX19_template_19 : decode cX19_template 19 = .ok (.athrow, 1) := dk_191 (dk_at dksX19_template_0 19 rfl rfl)
theorem dX19_template_20 : decode cX19_template 20 = .ok (.aload_n 0, 1) := dk_42 (dk_at dksX19_template_0 20 rfl rfl)
theorem dX19_template_21 : decode cX19_template 21 = .ok (.getfield 42, 3) := dk_180 0 42 (dk_at dksX19_template_0 21 rfl rfl)
theorem dX19_template_24 : decode cX19_template 24 = .ok (.iconst 3, 1) := dk_6 (dk_at dksX19_template_1 0 rfl rfl)
theorem dX19_template_25 : decode cX19_template 25 = .ok (.if_icmp .ne 11, 3) := dk_160 0 11 (dk_at dksX19_template_1 1 rfl rfl)
theorem dX19_template_28 : decode cX19_template 28 = .ok (.new 45, 3) := dk_187 0 45 (dk_at dksX19_template_1 4 rfl rfl)
theorem dX19_template_31 : decode cX19_template 31 = .ok (.dup, 1) := dk_89 (dk_at dksX19_template_1 7 rfl rfl)
theorem dX19_template_32 : decode cX19_template 32 = .ok (.invokespecial 47, 3) := dk_183 0 47 (dk_at dksX19_template_1 8 rfl rfl)
theorem dX19_template_35 : decode cX19_template 35 = .ok (.athrow, 1) := dk_191 (dk_at dksX19_template_1 11 rfl rfl)
theorem dX19_template_36 : decode cX19_template 36 = .ok (.aload_n 0, 1) := dk_42 (dk_at dksX19_template_1 12 rfl rfl)
theorem dX19_template_37 : decode cX19_template 37 = .ok (.dup, 1) := dk_89 (dk_at dksX19_template_1 13 rfl rfl)
theorem dX19_template_38 : decode cX19_template 38 = .ok (.getfield 42, 3) := dk_180 0 42 (dk_at dksX19_template_1 14 rfl rfl)
theorem dX19_template_41 : decode cX19_template 41 = .ok (.iconst 1, 1) := dk_4 (dk_at dksX19_template_1 17 rfl rfl)
theorem dX19_template_42 : decode cX19_template 42 = .ok (.iadd, 1) := dk_96 (dk_at dksX19_template_1 18 rfl rfl)
theorem dX19_template_43 : decode cX19_template 43 = .ok (.putfield 42, 3) := dk_181 0 42 (dk_at dksX19_template_1 19 rfl rfl)
theorem dX19_template_46 : decode cX19_template 46 = .ok (.aload_n 0, 1) := dk_42 (dk_at dksX19_template_1 22 rfl rfl)
theorem dX19_template_47 : decode cX19_template 47 = .ok (.aload_n 0, 1) := dk_42 (dk_at dksX19_template_1 23 rfl rfl)
theorem dX19_template_48 : decode cX19_template 48 = .ok (.getfield 18, 3) := dk_180 0 18 (dk_at dksX19_template_2 0 rfl rfl)
theorem dX19_template_51 : decode cX19_template 51 = .ok (.getfield 35, 3) := dk_180 0 35 (dk_at dksX19_template_2 3 rfl rfl)
theorem dX19_template_54 : decode cX19_template 54 = .ok (.iload_n 1, 1) := dk_27 (dk_at dksX19_template_2 6 rfl rfl)
theorem dX19_template_55 : decode cX19_template 55 = .ok (.aaload, 1) := dk_50 (dk_at dksX19_template_2 7 rfl rfl)
theorem dX19_template_56 : decode cX19_template 56 = .ok (.aload_n 2, 1) := dk_44 (dk_at dksX19_template_2 8 rfl rfl)
theorem dX19_template_57 : decode cX19_template 57 = .ok (.iconst (-1), 1) := dk_2 (dk_at dksX19_template_2 9 rfl rfl)
theorem dX19_template_58 : decode cX19_template 58 = .ok (.invokevirtual 48, 3) := dk_182 0 48 (dk_at dksX19_template_2 10 rfl rfl)
theorem dX19_template_61 : decode cX19_template 61 = .ok (.aload_n 0, 1) := dk_42 (dk_at dksX19_template_2 13 rfl rfl)
theorem dX19_template_62 : decode cX19_template 62 = .ok (.dup, 1) := dk_89 (dk_at dksX19_template_2 14 rfl rfl)
theorem dX19_template_63 : decode cX19_template 63 = .ok (.getfield 42, 3) := dk_180 0 42 (dk_at dksX19_template_2 15 rfl rfl)
theorem dX19_template_66 : decode cX19_template 66 = .ok (.iconst 1, 1) := dk_4 (dk_at dksX19_template_2 18 rfl rfl)
theorem dX19_template_67 : decode cX19_template 67 = .ok (.isub, 1) := dk_100 (dk_at dksX19_template_2 19 rfl rfl)
theorem dX19_template_68 : decode cX19_template 68 = .ok (.putfield 42, 3) := dk_181 0 42 (dk_at dksX19_template_2 20 rfl rfl)
theorem dX19_template_71 : decode cX19_template 71 = .ok (.return_, 1) := dk_177 (dk_at dksX19_template_2 23 rfl rfl)
abbrev cX19_render : ByteArray := prog_19_method_3_code
def yX19_render : MethodName := ⟨RX19, "render", "([LTemplateEngine$Part;LTemplateEngine$Context;I)V"⟩
def dkwX19_render_1 : List UInt8 := [58, 7, 25, 7, 42, 44, 29, 185, 0, 29, 4, 0, 132, 6, 1, 167, 255, 229, 177]
abbrev dktX19_render_1 : List UInt8 := dkwX19_render_1 ++ []
def dkwX19_render_0 : List UInt8 := [43, 58, 4, 25, 4, 190, 54, 5, 3, 54, 6, 21, 6, 21, 5, 162, 0, 26, 25, 4, 21, 6, 50]
abbrev dktX19_render_0 : List UInt8 := dkwX19_render_0 ++ dktX19_render_1
theorem dksX19_render_0 : cX19_render.data.toList.drop 0 = dktX19_render_0 := by decide +kernel
theorem dksX19_render_1 : cX19_render.data.toList.drop 23 = dktX19_render_1 := dk_seg dksX19_render_0 23 rfl rfl
theorem dX19_render_0 : decode cX19_render 0 = .ok (.aload_n 1, 1) := dk_43 (dk_at dksX19_render_0 0 rfl rfl)
theorem dX19_render_1 : decode cX19_render 1 = .ok (.astore 4, 2) := dk_58 4 (dk_at dksX19_render_0 1 rfl rfl)
theorem dX19_render_3 : decode cX19_render 3 = .ok (.aload 4, 2) := dk_25 4 (dk_at dksX19_render_0 3 rfl rfl)
theorem dX19_render_5 : decode cX19_render 5 = .ok (.arraylength, 1) := dk_190 (dk_at dksX19_render_0 5 rfl rfl)
theorem dX19_render_6 : decode cX19_render 6 = .ok (.istore 5, 2) := dk_54 5 (dk_at dksX19_render_0 6 rfl rfl)
theorem dX19_render_8 : decode cX19_render 8 = .ok (.iconst 0, 1) := dk_3 (dk_at dksX19_render_0 8 rfl rfl)
theorem dX19_render_9 : decode cX19_render 9 = .ok (.istore 6, 2) := dk_54 6 (dk_at dksX19_render_0 9 rfl rfl)
theorem dX19_render_11 : decode cX19_render 11 = .ok (.iload 6, 2) := dk_21 6 (dk_at dksX19_render_0 11 rfl rfl)
theorem dX19_render_13 : decode cX19_render 13 = .ok (.iload 5, 2) := dk_21 5 (dk_at dksX19_render_0 13 rfl rfl)
theorem dX19_render_15 : decode cX19_render 15 = .ok (.if_icmp .ge 26, 3) := dk_162 0 26 (dk_at dksX19_render_0 15 rfl rfl)
theorem dX19_render_18 : decode cX19_render 18 = .ok (.aload 4, 2) := dk_25 4 (dk_at dksX19_render_0 18 rfl rfl)
theorem dX19_render_20 : decode cX19_render 20 = .ok (.iload 6, 2) := dk_21 6 (dk_at dksX19_render_0 20 rfl rfl)
theorem dX19_render_22 : decode cX19_render 22 = .ok (.aaload, 1) := dk_50 (dk_at dksX19_render_0 22 rfl rfl)
theorem dX19_render_23 : decode cX19_render 23 = .ok (.astore 7, 2) := dk_58 7 (dk_at dksX19_render_1 0 rfl rfl)
theorem dX19_render_25 : decode cX19_render 25 = .ok (.aload 7, 2) := dk_25 7 (dk_at dksX19_render_1 2 rfl rfl)
theorem dX19_render_27 : decode cX19_render 27 = .ok (.aload_n 0, 1) := dk_42 (dk_at dksX19_render_1 4 rfl rfl)
theorem dX19_render_28 : decode cX19_render 28 = .ok (.aload_n 2, 1) := dk_44 (dk_at dksX19_render_1 5 rfl rfl)
theorem dX19_render_29 : decode cX19_render 29 = .ok (.iload_n 3, 1) := dk_29 (dk_at dksX19_render_1 6 rfl rfl)
theorem dX19_render_30 : decode cX19_render 30 = .ok (.invokeinterface 29 4, 5) := by decide +kernel
theorem dX19_render_35 : decode cX19_render 35 = .ok (.iinc 6 1, 3) := dk_132 6 1 (dk_at dksX19_render_1 12 rfl rfl)
theorem dX19_render_38 : decode cX19_render 38 = .ok (.goto (-27), 3) := dk_167 255 229 (dk_at dksX19_render_1 15 rfl rfl)
theorem dX19_render_41 : decode cX19_render 41 = .ok (.return_, 1) := dk_177 (dk_at dksX19_render_1 18 rfl rfl)
abbrev cX19_tag : ByteArray := prog_19_method_2_code
def yX19_tag : MethodName := ⟨RX19, "tag", "()V"⟩
def dkwX19_tag_1 : List UInt8 := [96, 181, 0, 22, 177]
abbrev dktX19_tag_1 : List UInt8 := dkwX19_tag_1 ++ []
def dkwX19_tag_0 : List UInt8 := [42, 180, 0, 22, 17, 2, 88, 160, 0, 11, 187, 0, 26, 89, 183, 0, 28, 191, 42, 89, 180, 0, 22, 4]
abbrev dktX19_tag_0 : List UInt8 := dkwX19_tag_0 ++ dktX19_tag_1
theorem dksX19_tag_0 : cX19_tag.data.toList.drop 0 = dktX19_tag_0 := by decide +kernel
theorem dksX19_tag_1 : cX19_tag.data.toList.drop 24 = dktX19_tag_1 := dk_seg dksX19_tag_0 24 rfl rfl
theorem dX19_tag_0 : decode cX19_tag 0 = .ok (.aload_n 0, 1) := dk_42 (dk_at dksX19_tag_0 0 rfl rfl)
theorem dX19_tag_1 : decode cX19_tag 1 = .ok (.getfield 22, 3) := dk_180 0 22 (dk_at dksX19_tag_0 1 rfl rfl)
theorem dX19_tag_4 : decode cX19_tag 4 = .ok (.sipush 600, 3) := dk_17 2 88 (dk_at dksX19_tag_0 4 rfl rfl)
theorem dX19_tag_7 : decode cX19_tag 7 = .ok (.if_icmp .ne 11, 3) := dk_160 0 11 (dk_at dksX19_tag_0 7 rfl rfl)
theorem dX19_tag_10 : decode cX19_tag 10 = .ok (.new 26, 3) := dk_187 0 26 (dk_at dksX19_tag_0 10 rfl rfl)
theorem dX19_tag_13 : decode cX19_tag 13 = .ok (.dup, 1) := dk_89 (dk_at dksX19_tag_0 13 rfl rfl)
theorem dX19_tag_14 : decode cX19_tag 14 = .ok (.invokespecial 28, 3) := dk_183 0 28 (dk_at dksX19_tag_0 14 rfl rfl)
theorem dX19_tag_17 : decode cX19_tag 17 = .ok (.athrow, 1) := dk_191 (dk_at dksX19_tag_0 17 rfl rfl)
theorem dX19_tag_18 : decode cX19_tag 18 = .ok (.aload_n 0, 1) := dk_42 (dk_at dksX19_tag_0 18 rfl rfl)
theorem dX19_tag_19 : decode cX19_tag 19 = .ok (.dup, 1) := dk_89 (dk_at dksX19_tag_0 19 rfl rfl)
theorem dX19_tag_20 : decode cX19_tag 20 = .ok (.getfield 22, 3) := dk_180 0 22 (dk_at dksX19_tag_0 20 rfl rfl)
theorem dX19_tag_23 : decode cX19_tag 23 = .ok (.iconst 1, 1) := dk_4 (dk_at dksX19_tag_0 23 rfl rfl)
theorem dX19_tag_24 : decode cX19_tag 24 = .ok (.iadd, 1) := dk_96 (dk_at dksX19_tag_1 0 rfl rfl)
theorem dX19_tag_25 : decode cX19_tag 25 = .ok (.putfield 22, 3) := dk_181 0 22 (dk_at dksX19_tag_1 1 rfl rfl)
theorem dX19_tag_28 : decode cX19_tag 28 = .ok (.return_, 1) := dk_177 (dk_at dksX19_tag_1 4 rfl rfl)
theorem q117 : (Jvm.Cond.initialized "TemplateEngine$Rendering") ∈ lw_all := lw_g (lw_at lw_m1 46 rfl) rfl
theorem q495 : (Jvm.Cond.fieldLinkNest "TemplateEngine$Rendering" (35 : Nat) "TemplateEngine" "templates" "[[LTemplateEngine$Part;" "TemplateEngine") ∈ lw_tbl := lw_at lw_m2 184 rfl
theorem q671 : (Jvm.Cond.selects "TemplateEngine$Rendering" ({ cls := "java/lang/Object", name := "getClass", desc := "()Ljava/lang/Class;" } : Jvm.MethodName) ({ cls := "java/lang/Object", name := "getClass", desc := "()Ljava/lang/Class;" } : Jvm.MethodName)) ∈ lw_all := lw_g (lw_at lw_m3 120 rfl) rfl
theorem q1419 : (Jvm.Cond.instantiable "TemplateEngine$Rendering" (4 : Nat)) ∈ lw_all := lw_g (lw_at lw_m6 148 rfl) rfl
theorem q1421 : (Jvm.Cond.instanceMethod ({ cls := "TemplateEngine$Rendering", name := "<init>", desc := "(LTemplateEngine;)V" } : Jvm.MethodName)) ∈ lw_all := lw_g (lw_at lw_m6 150 rfl) rfl
theorem q1422 : (Jvm.Cond.code ({ cls := "TemplateEngine$Rendering", name := "<init>", desc := "(LTemplateEngine;)V" } : Jvm.MethodName) prog_19_method_1_code (2 : Nat) (Option.none : Option Jvm.ClassFile.FieldType)) ∈ lw_all := lw_g (lw_at lw_m6 151 rfl) rfl
theorem q1423 : (Jvm.Cond.methodLink "TemplateEngine$Rendering" (3 : Nat) ({ cls := "java/lang/Object", name := "<init>", desc := "()V" } : Jvm.MethodName)) ∈ lw_all := lw_g (lw_at lw_m6 152 rfl) rfl
theorem q1424 : (Jvm.Cond.classLink "TemplateEngine$Rendering" (9 : Nat) "TemplateEngine$Output") ∈ lw_all := lw_g (lw_at lw_m6 153 rfl) rfl
theorem q1425 : (Jvm.Cond.methodLinkNest "TemplateEngine$Rendering" (11 : Nat) ({ cls := "TemplateEngine$Output", name := "<init>", desc := "()V" } : Jvm.MethodName) "TemplateEngine") ∈ lw_tbl := lw_at lw_m6 154 rfl
theorem q1426 : (Jvm.Cond.fieldLink "TemplateEngine$Rendering" (18 : Nat) "TemplateEngine$Rendering" "engine" "LTemplateEngine;") ∈ lw_all := lw_g (lw_at lw_m6 155 rfl) rfl
theorem q1427 : (Jvm.Cond.fieldLink "TemplateEngine$Rendering" (12 : Nat) "TemplateEngine$Rendering" "out" "LTemplateEngine$Output;") ∈ lw_all := lw_g (lw_at lw_m6 156 rfl) rfl
theorem q1431 : (Jvm.Cond.fieldLink "TemplateEngine$Rendering" (22 : Nat) "TemplateEngine$Rendering" "tags" "I") ∈ lw_all := lw_g (lw_at lw_m6 160 rfl) rfl
theorem q1433 : (Jvm.Cond.fieldLink "TemplateEngine$Rendering" (42 : Nat) "TemplateEngine$Rendering" "depth" "I") ∈ lw_all := lw_g (lw_at lw_m6 162 rfl) rfl
theorem q1434 : (Jvm.Cond.laysFinal "TemplateEngine$Rendering" "TemplateEngine$Rendering" "engine" "LTemplateEngine;") ∈ lw_all := lw_g (lw_at lw_m6 163 rfl) rfl
theorem q1435 : (Jvm.Cond.soleField "TemplateEngine$Rendering" "engine") ∈ lw_all := lw_g (lw_at lw_m6 164 rfl) rfl
theorem q1436 : (Jvm.Cond.laysFinal "TemplateEngine$Rendering" "TemplateEngine$Rendering" "out" "LTemplateEngine$Output;") ∈ lw_all := lw_g (lw_at lw_m6 165 rfl) rfl
theorem q1437 : (Jvm.Cond.soleField "TemplateEngine$Rendering" "out") ∈ lw_all := lw_g (lw_at lw_m6 166 rfl) rfl
theorem q1438 : (Jvm.Cond.lays "TemplateEngine$Rendering" "TemplateEngine$Rendering" "tags" "I") ∈ lw_all := lw_g (lw_at lw_m6 167 rfl) rfl
theorem q1439 : (Jvm.Cond.soleField "TemplateEngine$Rendering" "tags") ∈ lw_all := lw_g (lw_at lw_m6 168 rfl) rfl
theorem q1440 : (Jvm.Cond.lays "TemplateEngine$Rendering" "TemplateEngine$Rendering" "depth" "I") ∈ lw_all := lw_g (lw_at lw_m6 169 rfl) rfl
theorem q1441 : (Jvm.Cond.soleField "TemplateEngine$Rendering" "depth") ∈ lw_all := lw_g (lw_at lw_m6 170 rfl) rfl
theorem q1442 : (Jvm.Cond.superclass "TemplateEngine$Rendering" "java/lang/Object") ∈ lw_all := lw_g (lw_at lw_m6 171 rfl) rfl
theorem q1473 : (Jvm.Cond.instanceMethod ({ cls := "TemplateEngine$Rendering", name := "template", desc := "(ILTemplateEngine$Context;)V" } : Jvm.MethodName)) ∈ lw_all := lw_g (lw_at lw_m6 202 rfl) rfl
theorem q1474 : (Jvm.Cond.selects "TemplateEngine$Rendering" ({ cls := "TemplateEngine$Rendering", name := "template", desc := "(ILTemplateEngine$Context;)V" } : Jvm.MethodName) ({ cls := "TemplateEngine$Rendering", name := "template", desc := "(ILTemplateEngine$Context;)V" } : Jvm.MethodName)) ∈ lw_all := lw_g (lw_at lw_m6 203 rfl) rfl
theorem q1475 : (Jvm.Cond.code ({ cls := "TemplateEngine$Rendering", name := "template", desc := "(ILTemplateEngine$Context;)V" } : Jvm.MethodName) prog_19_method_4_code (3 : Nat) (Option.none : Option Jvm.ClassFile.FieldType)) ∈ lw_all := lw_g (lw_at lw_m6 204 rfl) rfl
theorem q1476 : (Jvm.Cond.classLink "TemplateEngine$Rendering" (39 : Nat) "java/util/NoSuchElementException") ∈ lw_all := lw_g (lw_at lw_m6 205 rfl) rfl
theorem q1477 : (Jvm.Cond.methodLink "TemplateEngine$Rendering" (41 : Nat) ({ cls := "java/util/NoSuchElementException", name := "<init>", desc := "()V" } : Jvm.MethodName)) ∈ lw_all := lw_g (lw_at lw_m6 206 rfl) rfl
theorem q1478 : (Jvm.Cond.classLink "TemplateEngine$Rendering" (45 : Nat) "java/lang/ArithmeticException") ∈ lw_all := lw_g (lw_at lw_m6 207 rfl) rfl
theorem q1479 : (Jvm.Cond.methodLink "TemplateEngine$Rendering" (47 : Nat) ({ cls := "java/lang/ArithmeticException", name := "<init>", desc := "()V" } : Jvm.MethodName)) ∈ lw_all := lw_g (lw_at lw_m6 208 rfl) rfl
theorem q1483 : (Jvm.Cond.methodLink "TemplateEngine$Rendering" (48 : Nat) ({ cls := "TemplateEngine$Rendering", name := "render", desc := "([LTemplateEngine$Part;LTemplateEngine$Context;I)V" } : Jvm.MethodName)) ∈ lw_all := lw_g (lw_at lw_m6 212 rfl) rfl
theorem q1484 : (Jvm.Cond.instanceMethod ({ cls := "TemplateEngine$Rendering", name := "render", desc := "([LTemplateEngine$Part;LTemplateEngine$Context;I)V" } : Jvm.MethodName)) ∈ lw_all := lw_g (lw_at lw_m6 213 rfl) rfl
theorem q1485 : (Jvm.Cond.selects "TemplateEngine$Rendering" ({ cls := "TemplateEngine$Rendering", name := "render", desc := "([LTemplateEngine$Part;LTemplateEngine$Context;I)V" } : Jvm.MethodName) ({ cls := "TemplateEngine$Rendering", name := "render", desc := "([LTemplateEngine$Part;LTemplateEngine$Context;I)V" } : Jvm.MethodName)) ∈ lw_all := lw_g (lw_at lw_m6 214 rfl) rfl
theorem q1486 : (Jvm.Cond.code ({ cls := "TemplateEngine$Rendering", name := "render", desc := "([LTemplateEngine$Part;LTemplateEngine$Context;I)V" } : Jvm.MethodName) prog_19_method_3_code (8 : Nat) (Option.none : Option Jvm.ClassFile.FieldType)) ∈ lw_all := lw_g (lw_at lw_m6 215 rfl) rfl
theorem q1487 : (Jvm.Cond.interfaceEntry "TemplateEngine$Rendering" (29 : Nat)) ∈ lw_tbl := lw_at lw_m6 216 rfl
theorem q1488 : (Jvm.Cond.methodLink "TemplateEngine$Rendering" (29 : Nat) ({ cls := "TemplateEngine$Part", name := "render", desc := "(LTemplateEngine$Rendering;LTemplateEngine$Context;I)V" } : Jvm.MethodName)) ∈ lw_all := lw_g (lw_at lw_m6 217 rfl) rfl
theorem q1498 : (Jvm.Cond.instanceMethod ({ cls := "TemplateEngine$Rendering", name := "tag", desc := "()V" } : Jvm.MethodName)) ∈ lw_all := lw_g (lw_at lw_m6 227 rfl) rfl
theorem q1499 : (Jvm.Cond.selects "TemplateEngine$Rendering" ({ cls := "TemplateEngine$Rendering", name := "tag", desc := "()V" } : Jvm.MethodName) ({ cls := "TemplateEngine$Rendering", name := "tag", desc := "()V" } : Jvm.MethodName)) ∈ lw_all := lw_g (lw_at lw_m6 228 rfl) rfl
theorem q1500 : (Jvm.Cond.code ({ cls := "TemplateEngine$Rendering", name := "tag", desc := "()V" } : Jvm.MethodName) prog_19_method_2_code (1 : Nat) (Option.none : Option Jvm.ClassFile.FieldType)) ∈ lw_all := lw_g (lw_at lw_m6 229 rfl) rfl
theorem q1501 : (Jvm.Cond.classLink "TemplateEngine$Rendering" (26 : Nat) "java/lang/IllegalStateException") ∈ lw_all := lw_g (lw_at lw_m6 230 rfl) rfl
theorem q1502 : (Jvm.Cond.methodLink "TemplateEngine$Rendering" (28 : Nat) ({ cls := "java/lang/IllegalStateException", name := "<init>", desc := "()V" } : Jvm.MethodName)) ∈ lw_all := lw_g (lw_at lw_m6 231 rfl) rfl
theorem q2314 : (Jvm.Cond.castable "TemplateEngine$Rendering" "java/lang/Object") ∈ lw_tbl := lw_at lw_m10 83 rfl
theorem in_X19 : ∀ w ∈ wsX190, w ∈ lw_all := lw_in wsX190 [1434, 1436, 1438, 1440] (by decide +kernel) (by decide +kernel)

/-! TemplateEngine$Context -/
set_option maxRecDepth 100000
def RX20 : String := "TemplateEngine$Context"
def TX20 : u_T := fun k => match k with
  | 0 => ("TemplateEngine$Context", "data", "LTemplateEngine$Data;", false)
  | 1 => ("TemplateEngine$Context", "before", "LTemplateEngine$Context;", true)
  | 2 => ("TemplateEngine$Context", "inner", "LTemplateEngine$Context;", false)
  | 3 => ("TemplateEngine$Context", "first", "LTemplateEngine$Output;", true)
  | _ => ("TemplateEngine$Context", "second", "LTemplateEngine$Output;", true)
def tyX20 : Nat → FieldType := fun k => match k with
  | 0 => .object "TemplateEngine$Data"
  | 1 => .object "TemplateEngine$Context"
  | 2 => .object "TemplateEngine$Context"
  | 3 => .object "TemplateEngine$Output"
  | _ => .object "TemplateEngine$Output"
abbrev wsX200 : List Cond := u_ws RX20 TX20 5
theorem nmX20 : ∀ a, a < 5 → ∀ b, b < 5 → a ≠ b → (TX20 a).2.1 ≠ (TX20 b).2.1 := by decide +kernel
theorem tyX20_ok : ∀ k, k < 5 → parseFieldDescriptor (TX20 k).2.2.1 = some (tyX20 k) := by decide +kernel
abbrev cX20_init : ByteArray := prog_4_method_1_code
def yX20_init : MethodName := ⟨RX20, "<init>", "(LTemplateEngine$Data;LTemplateEngine$Context;)V"⟩
def dkwX20_init_2 : List UInt8 := [187, 0, 20, 89, 183, 0, 22, 167, 0, 7, 44, 180, 0, 27, 181, 0, 27, 177]
abbrev dktX20_init_2 : List UInt8 := dkwX20_init_2 ++ []
def dkwX20_init_1 : List UInt8 := [187, 0, 20, 89, 183, 0, 22, 167, 0, 7, 44, 180, 0, 23, 181, 0, 23, 42, 44, 199, 0, 13]
abbrev dktX20_init_1 : List UInt8 := dkwX20_init_1 ++ dktX20_init_2
def dkwX20_init_0 : List UInt8 := [42, 183, 0, 1, 42, 1, 181, 0, 7, 42, 43, 181, 0, 13, 42, 44, 181, 0, 17, 42, 44, 199, 0, 13]
abbrev dktX20_init_0 : List UInt8 := dkwX20_init_0 ++ dktX20_init_1
theorem dksX20_init_0 : cX20_init.data.toList.drop 0 = dktX20_init_0 := by decide +kernel
theorem dksX20_init_1 : cX20_init.data.toList.drop 24 = dktX20_init_1 := dk_seg dksX20_init_0 24 rfl rfl
theorem dksX20_init_2 : cX20_init.data.toList.drop 46 = dktX20_init_2 := dk_seg dksX20_init_1 22 rfl rfl
theorem dX20_init_0 : decode cX20_init 0 = .ok (.aload_n 0, 1) := dk_42 (dk_at dksX20_init_0 0 rfl rfl)
theorem dX20_init_1 : decode cX20_init 1 = .ok (.invokespecial 1, 3) := dk_183 0 1 (dk_at dksX20_init_0 1 rfl rfl)
theorem dX20_init_4 : decode cX20_init 4 = .ok (.aload_n 0, 1) := dk_42 (dk_at dksX20_init_0 4 rfl rfl)
theorem dX20_init_5 : decode cX20_init 5 = .ok (.aconst_null, 1) := dk_1 (dk_at dksX20_init_0 5 rfl rfl)
theorem dX20_init_6 : decode cX20_init 6 = .ok (.putfield 7, 3) := dk_181 0 7 (dk_at dksX20_init_0 6 rfl rfl)
theorem dX20_init_9 : decode cX20_init 9 = .ok (.aload_n 0, 1) := dk_42 (dk_at dksX20_init_0 9 rfl rfl)
theorem dX20_init_10 : decode cX20_init 10 = .ok (.aload_n 1, 1) := dk_43 (dk_at dksX20_init_0 10 rfl rfl)
theorem dX20_init_11 : decode cX20_init 11 = .ok (.putfield 13, 3) := dk_181 0 13 (dk_at dksX20_init_0 11 rfl rfl)
theorem dX20_init_14 : decode cX20_init 14 = .ok (.aload_n 0, 1) := dk_42 (dk_at dksX20_init_0 14 rfl rfl)
theorem dX20_init_15 : decode cX20_init 15 = .ok (.aload_n 2, 1) := dk_44 (dk_at dksX20_init_0 15 rfl rfl)
theorem dX20_init_16 : decode cX20_init 16 = .ok (.putfield 17, 3) := dk_181 0 17 (dk_at dksX20_init_0 16 rfl rfl)
theorem dX20_init_19 : decode cX20_init 19 = .ok (.aload_n 0, 1) := dk_42 (dk_at dksX20_init_0 19 rfl rfl)
theorem dX20_init_20 : decode cX20_init 20 = .ok (.aload_n 2, 1) := dk_44 (dk_at dksX20_init_0 20 rfl rfl)
theorem dX20_init_21 : decode cX20_init 21 = .ok (.ifnonnull 13, 3) := dk_199 0 13 (dk_at dksX20_init_0 21 rfl rfl)
theorem dX20_init_24 : decode cX20_init 24 = .ok (.new 20, 3) := dk_187 0 20 (dk_at dksX20_init_1 0 rfl rfl)
theorem dX20_init_27 : decode cX20_init 27 = .ok (.dup, 1) := dk_89 (dk_at dksX20_init_1 3 rfl rfl)
theorem dX20_init_28 : decode cX20_init 28 = .ok (.invokespecial 22, 3) := dk_183 0 22 (dk_at dksX20_init_1 4 rfl rfl)
theorem dX20_init_31 : decode cX20_init 31 = .ok (.goto 7, 3) := dk_167 0 7 (dk_at dksX20_init_1 7 rfl rfl)
theorem dX20_init_34 : decode cX20_init 34 = .ok (.aload_n 2, 1) := dk_44 (dk_at dksX20_init_1 10 rfl rfl)
theorem dX20_init_35 : decode cX20_init 35 = .ok (.getfield 23, 3) := dk_180 0 23 (dk_at dksX20_init_1 11 rfl rfl)
theorem dX20_init_38 : decode cX20_init 38 = .ok (.putfield 23, 3) := dk_181 0 23 (dk_at dksX20_init_1 14 rfl rfl)
theorem dX20_init_41 : decode cX20_init 41 = .ok (.aload_n 0, 1) := dk_42 (dk_at dksX20_init_1 17 rfl rfl)
theorem dX20_init_42 : decode cX20_init 42 = .ok (.aload_n 2, 1) := dk_44 (dk_at dksX20_init_1 18 rfl rfl)
theorem dX20_init_43 : decode cX20_init 43 = .ok (.ifnonnull 13, 3) := dk_199 0 13 (dk_at dksX20_init_1 19 rfl rfl)
theorem dX20_init_46 : decode cX20_init 46 = .ok (.new 20, 3) := dk_187 0 20 (dk_at dksX20_init_2 0 rfl rfl)
theorem dX20_init_49 : decode cX20_init 49 = .ok (.dup, 1) := dk_89 (dk_at dksX20_init_2 3 rfl rfl)
theorem dX20_init_50 : decode cX20_init 50 = .ok (.invokespecial 22, 3) := dk_183 0 22 (dk_at dksX20_init_2 4 rfl rfl)
theorem dX20_init_53 : decode cX20_init 53 = .ok (.goto 7, 3) := dk_167 0 7 (dk_at dksX20_init_2 7 rfl rfl)
theorem dX20_init_56 : decode cX20_init 56 = .ok (.aload_n 2, 1) := dk_44 (dk_at dksX20_init_2 10 rfl rfl)
theorem dX20_init_57 : decode cX20_init 57 = .ok (.getfield 27, 3) := dk_180 0 27 (dk_at dksX20_init_2 11 rfl rfl)
theorem dX20_init_60 : decode cX20_init 60 = .ok (.putfield 27, 3) := dk_181 0 27 (dk_at dksX20_init_2 14 rfl rfl)
theorem dX20_init_63 : decode cX20_init 63 = .ok (.return_, 1) := dk_177 (dk_at dksX20_init_2 17 rfl rfl)
abbrev cX20_with : ByteArray := prog_4_method_2_code
def yX20_with : MethodName := ⟨RX20, "with", "(LTemplateEngine$Data;)LTemplateEngine$Context;"⟩
def dkwX20_with_1 : List UInt8 := [43, 181, 0, 13, 42, 180, 0, 7, 176]
abbrev dktX20_with_1 : List UInt8 := dkwX20_with_1 ++ []
def dkwX20_with_0 : List UInt8 := [42, 180, 0, 7, 199, 0, 16, 42, 187, 0, 8, 89, 43, 42, 183, 0, 30, 181, 0, 7, 42, 180, 0, 7]
abbrev dktX20_with_0 : List UInt8 := dkwX20_with_0 ++ dktX20_with_1
theorem dksX20_with_0 : cX20_with.data.toList.drop 0 = dktX20_with_0 := by decide +kernel
theorem dksX20_with_1 : cX20_with.data.toList.drop 24 = dktX20_with_1 := dk_seg dksX20_with_0 24 rfl rfl
theorem dX20_with_0 : decode cX20_with 0 = .ok (.aload_n 0, 1) := dk_42 (dk_at dksX20_with_0 0 rfl rfl)
theorem dX20_with_1 : decode cX20_with 1 = .ok (.getfield 7, 3) := dk_180 0 7 (dk_at dksX20_with_0 1 rfl rfl)
theorem dX20_with_4 : decode cX20_with 4 = .ok (.ifnonnull 16, 3) := dk_199 0 16 (dk_at dksX20_with_0 4 rfl rfl)
theorem dX20_with_7 : decode cX20_with 7 = .ok (.aload_n 0, 1) := dk_42 (dk_at dksX20_with_0 7 rfl rfl)
theorem dX20_with_8 : decode cX20_with 8 = .ok (.new 8, 3) := dk_187 0 8 (dk_at dksX20_with_0 8 rfl rfl)
theorem dX20_with_11 : decode cX20_with 11 = .ok (.dup, 1) := dk_89 (dk_at dksX20_with_0 11 rfl rfl)
theorem dX20_with_12 : decode cX20_with 12 = .ok (.aload_n 1, 1) := dk_43 (dk_at dksX20_with_0 12 rfl rfl)
theorem dX20_with_13 : decode cX20_with 13 = .ok (.aload_n 0, 1) := dk_42 (dk_at dksX20_with_0 13 rfl rfl)
theorem dX20_with_14 : decode cX20_with 14 = .ok (.invokespecial 30, 3) := dk_183 0 30 (dk_at dksX20_with_0 14 rfl rfl)
theorem dX20_with_17 : decode cX20_with 17 = .ok (.putfield 7, 3) := dk_181 0 7 (dk_at dksX20_with_0 17 rfl rfl)
theorem dX20_with_20 : decode cX20_with 20 = .ok (.aload_n 0, 1) := dk_42 (dk_at dksX20_with_0 20 rfl rfl)
theorem dX20_with_21 : decode cX20_with 21 = .ok (.getfield 7, 3) := dk_180 0 7 (dk_at dksX20_with_0 21 rfl rfl)
theorem dX20_with_24 : decode cX20_with 24 = .ok (.aload_n 1, 1) := dk_43 (dk_at dksX20_with_1 0 rfl rfl)
theorem dX20_with_25 : decode cX20_with 25 = .ok (.putfield 13, 3) := dk_181 0 13 (dk_at dksX20_with_1 1 rfl rfl)
theorem dX20_with_28 : decode cX20_with 28 = .ok (.aload_n 0, 1) := dk_42 (dk_at dksX20_with_1 4 rfl rfl)
theorem dX20_with_29 : decode cX20_with 29 = .ok (.getfield 7, 3) := dk_180 0 7 (dk_at dksX20_with_1 5 rfl rfl)
theorem dX20_with_32 : decode cX20_with 32 = .ok (.areturn, 1) := dk_176 (dk_at dksX20_with_1 8 rfl rfl)
theorem q118 : (Jvm.Cond.initialized "TemplateEngine$Context") ∈ lw_all := lw_g (lw_at lw_m1 47 rfl) rfl
theorem q659 : (Jvm.Cond.selects "TemplateEngine$Context" ({ cls := "java/lang/Object", name := "getClass", desc := "()Ljava/lang/Class;" } : Jvm.MethodName) ({ cls := "java/lang/Object", name := "getClass", desc := "()Ljava/lang/Class;" } : Jvm.MethodName)) ∈ lw_all := lw_g (lw_at lw_m3 108 rfl) rfl
theorem q1444 : (Jvm.Cond.instantiable "TemplateEngine$Context" (5 : Nat)) ∈ lw_all := lw_g (lw_at lw_m6 173 rfl) rfl
theorem q1446 : (Jvm.Cond.instanceMethod ({ cls := "TemplateEngine$Context", name := "<init>", desc := "(LTemplateEngine$Data;LTemplateEngine$Context;)V" } : Jvm.MethodName)) ∈ lw_all := lw_g (lw_at lw_m6 175 rfl) rfl
theorem q1447 : (Jvm.Cond.code ({ cls := "TemplateEngine$Context", name := "<init>", desc := "(LTemplateEngine$Data;LTemplateEngine$Context;)V" } : Jvm.MethodName) prog_4_method_1_code (3 : Nat) (Option.none : Option Jvm.ClassFile.FieldType)) ∈ lw_all := lw_g (lw_at lw_m6 176 rfl) rfl
theorem q1448 : (Jvm.Cond.methodLink "TemplateEngine$Context" (1 : Nat) ({ cls := "java/lang/Object", name := "<init>", desc := "()V" } : Jvm.MethodName)) ∈ lw_all := lw_g (lw_at lw_m6 177 rfl) rfl
theorem q1449 : (Jvm.Cond.classLink "TemplateEngine$Context" (20 : Nat) "TemplateEngine$Output") ∈ lw_all := lw_g (lw_at lw_m6 178 rfl) rfl
theorem q1450 : (Jvm.Cond.methodLinkNest "TemplateEngine$Context" (22 : Nat) ({ cls := "TemplateEngine$Output", name := "<init>", desc := "()V" } : Jvm.MethodName) "TemplateEngine") ∈ lw_tbl := lw_at lw_m6 179 rfl
theorem q1451 : (Jvm.Cond.fieldLink "TemplateEngine$Context" (13 : Nat) "TemplateEngine$Context" "data" "LTemplateEngine$Data;") ∈ lw_all := lw_g (lw_at lw_m6 180 rfl) rfl
theorem q1453 : (Jvm.Cond.fieldLink "TemplateEngine$Context" (17 : Nat) "TemplateEngine$Context" "before" "LTemplateEngine$Context;") ∈ lw_all := lw_g (lw_at lw_m6 182 rfl) rfl
theorem q1455 : (Jvm.Cond.fieldLink "TemplateEngine$Context" (7 : Nat) "TemplateEngine$Context" "inner" "LTemplateEngine$Context;") ∈ lw_all := lw_g (lw_at lw_m6 184 rfl) rfl
theorem q1456 : (Jvm.Cond.fieldLink "TemplateEngine$Context" (23 : Nat) "TemplateEngine$Context" "first" "LTemplateEngine$Output;") ∈ lw_all := lw_g (lw_at lw_m6 185 rfl) rfl
theorem q1459 : (Jvm.Cond.fieldLink "TemplateEngine$Context" (27 : Nat) "TemplateEngine$Context" "second" "LTemplateEngine$Output;") ∈ lw_all := lw_g (lw_at lw_m6 188 rfl) rfl
theorem q1461 : (Jvm.Cond.lays "TemplateEngine$Context" "TemplateEngine$Context" "data" "LTemplateEngine$Data;") ∈ lw_all := lw_g (lw_at lw_m6 190 rfl) rfl
theorem q1462 : (Jvm.Cond.soleField "TemplateEngine$Context" "data") ∈ lw_all := lw_g (lw_at lw_m6 191 rfl) rfl
theorem q1463 : (Jvm.Cond.laysFinal "TemplateEngine$Context" "TemplateEngine$Context" "before" "LTemplateEngine$Context;") ∈ lw_all := lw_g (lw_at lw_m6 192 rfl) rfl
theorem q1464 : (Jvm.Cond.soleField "TemplateEngine$Context" "before") ∈ lw_all := lw_g (lw_at lw_m6 193 rfl) rfl
theorem q1465 : (Jvm.Cond.lays "TemplateEngine$Context" "TemplateEngine$Context" "inner" "LTemplateEngine$Context;") ∈ lw_all := lw_g (lw_at lw_m6 194 rfl) rfl
theorem q1466 : (Jvm.Cond.soleField "TemplateEngine$Context" "inner") ∈ lw_all := lw_g (lw_at lw_m6 195 rfl) rfl
theorem q1467 : (Jvm.Cond.laysFinal "TemplateEngine$Context" "TemplateEngine$Context" "first" "LTemplateEngine$Output;") ∈ lw_all := lw_g (lw_at lw_m6 196 rfl) rfl
theorem q1468 : (Jvm.Cond.soleField "TemplateEngine$Context" "first") ∈ lw_all := lw_g (lw_at lw_m6 197 rfl) rfl
theorem q1469 : (Jvm.Cond.laysFinal "TemplateEngine$Context" "TemplateEngine$Context" "second" "LTemplateEngine$Output;") ∈ lw_all := lw_g (lw_at lw_m6 198 rfl) rfl
theorem q1470 : (Jvm.Cond.soleField "TemplateEngine$Context" "second") ∈ lw_all := lw_g (lw_at lw_m6 199 rfl) rfl
theorem q1471 : (Jvm.Cond.superclass "TemplateEngine$Context" "java/lang/Object") ∈ lw_all := lw_g (lw_at lw_m6 200 rfl) rfl
theorem q1712 : (Jvm.Cond.instanceMethod ({ cls := "TemplateEngine$Context", name := "with", desc := "(LTemplateEngine$Data;)LTemplateEngine$Context;" } : Jvm.MethodName)) ∈ lw_all := lw_g (lw_at lw_m7 201 rfl) rfl
theorem q1713 : (Jvm.Cond.selects "TemplateEngine$Context" ({ cls := "TemplateEngine$Context", name := "with", desc := "(LTemplateEngine$Data;)LTemplateEngine$Context;" } : Jvm.MethodName) ({ cls := "TemplateEngine$Context", name := "with", desc := "(LTemplateEngine$Data;)LTemplateEngine$Context;" } : Jvm.MethodName)) ∈ lw_all := lw_g (lw_at lw_m7 202 rfl) rfl
theorem q1714 : (Jvm.Cond.code ({ cls := "TemplateEngine$Context", name := "with", desc := "(LTemplateEngine$Data;)LTemplateEngine$Context;" } : Jvm.MethodName) prog_4_method_2_code (2 : Nat) (Option.some (Jvm.ClassFile.FieldType.object "TemplateEngine$Context"))) ∈ lw_all := lw_g (lw_at lw_m7 203 rfl) rfl
theorem q1715 : (Jvm.Cond.classLink "TemplateEngine$Context" (8 : Nat) "TemplateEngine$Context") ∈ lw_all := lw_g (lw_at lw_m7 204 rfl) rfl
theorem q1716 : (Jvm.Cond.methodLink "TemplateEngine$Context" (30 : Nat) ({ cls := "TemplateEngine$Context", name := "<init>", desc := "(LTemplateEngine$Data;LTemplateEngine$Context;)V" } : Jvm.MethodName)) ∈ lw_all := lw_g (lw_at lw_m7 205 rfl) rfl
theorem q2315 : (Jvm.Cond.castable "TemplateEngine$Context" "java/lang/Object") ∈ lw_tbl := lw_at lw_m10 84 rfl
theorem in_X20 : ∀ w ∈ wsX200, w ∈ lw_all := lw_in wsX200 [1461, 1463, 1465, 1467, 1469] (by decide +kernel) (by decide +kernel)

/-! TemplateEngine$Capitals -/
set_option maxRecDepth 100000
def RX21 : String := "TemplateEngine$Capitals"
def TX21 : u_T := fun k => match k with
  | 0 => ("TemplateEngine$Data", "asked", "I", false)
  | 1 => ("TemplateEngine$Capitals", "of", "LTemplateEngine$Data;", true)
  | _ => ("TemplateEngine$Capitals", "size", "I", true)
def tyX21 : Nat → FieldType := fun k => match k with
  | 0 => .int
  | 1 => .object "TemplateEngine$Data"
  | _ => .int
abbrev wsX210 : List Cond := u_ws RX21 TX21 3
theorem nmX21 : ∀ a, a < 3 → ∀ b, b < 3 → a ≠ b → (TX21 a).2.1 ≠ (TX21 b).2.1 := by decide +kernel
theorem tyX21_ok : ∀ k, k < 3 → parseFieldDescriptor (TX21 k).2.2.1 = some (tyX21 k) := by decide +kernel
abbrev cX21_kind : ByteArray := prog_3_method_2_code
def yX21_kind : MethodName := ⟨RX21, "kind", "()I"⟩
theorem dX21_kind_0 : decode cX21_kind 0 = .ok (.iconst 1, 1) := by decide +kernel
theorem dX21_kind_1 : decode cX21_kind 1 = .ok (.ireturn, 1) := by decide +kernel
abbrev cX21_write : ByteArray := prog_3_method_5_code
def yX21_write : MethodName := ⟨RX21, "write", "(LTemplateEngine$Output;)V"⟩
def dkwX21_write_1 : List UInt8 := [182, 0, 27, 177]
abbrev dktX21_write_1 : List UInt8 := dkwX21_write_1 ++ []
def dkwX21_write_0 : List UInt8 := [43, 182, 0, 17, 61, 42, 180, 0, 7, 198, 0, 11, 42, 180, 0, 7, 43, 182, 0, 23, 43, 28]
abbrev dktX21_write_0 : List UInt8 := dkwX21_write_0 ++ dktX21_write_1
theorem dksX21_write_0 : cX21_write.data.toList.drop 0 = dktX21_write_0 := by decide +kernel
theorem dksX21_write_1 : cX21_write.data.toList.drop 22 = dktX21_write_1 := dk_seg dksX21_write_0 22 rfl rfl
theorem dX21_write_0 : decode cX21_write 0 = .ok (.aload_n 1, 1) := dk_43 (dk_at dksX21_write_0 0 rfl rfl)
theorem dX21_write_1 : decode cX21_write 1 = .ok (.invokevirtual 17, 3) := dk_182 0 17 (dk_at dksX21_write_0 1 rfl rfl)
theorem dX21_write_4 : decode cX21_write 4 = .ok (.istore_n 2, 1) := dk_61 (dk_at dksX21_write_0 4 rfl rfl)
theorem dX21_write_5 : decode cX21_write 5 = .ok (.aload_n 0, 1) := dk_42 (dk_at dksX21_write_0 5 rfl rfl)
theorem dX21_write_6 : decode cX21_write 6 = .ok (.getfield 7, 3) := dk_180 0 7 (dk_at dksX21_write_0 6 rfl rfl)
theorem dX21_write_9 : decode cX21_write 9 = .ok (.ifnull 11, 3) := dk_198 0 11 (dk_at dksX21_write_0 9 rfl rfl)
theorem dX21_write_12 : decode cX21_write 12 = .ok (.aload_n 0, 1) := dk_42 (dk_at dksX21_write_0 12 rfl rfl)
theorem dX21_write_13 : decode cX21_write 13 = .ok (.getfield 7, 3) := dk_180 0 7 (dk_at dksX21_write_0 13 rfl rfl)
theorem dX21_write_16 : decode cX21_write 16 = .ok (.aload_n 1, 1) := dk_43 (dk_at dksX21_write_0 16 rfl rfl)
theorem dX21_write_17 : decode cX21_write 17 = .ok (.invokevirtual 23, 3) := dk_182 0 23 (dk_at dksX21_write_0 17 rfl rfl)
theorem dX21_write_20 : decode cX21_write 20 = .ok (.aload_n 1, 1) := dk_43 (dk_at dksX21_write_0 20 rfl rfl)
theorem dX21_write_21 : decode cX21_write 21 = .ok (.iload_n 2, 1) := dk_28 (dk_at dksX21_write_0 21 rfl rfl)
theorem dX21_write_22 : decode cX21_write 22 = .ok (.invokevirtual 27, 3) := dk_182 0 27 (dk_at dksX21_write_1 0 rfl rfl)
theorem dX21_write_25 : decode cX21_write 25 = .ok (.return_, 1) := dk_177 (dk_at dksX21_write_1 3 rfl rfl)
abbrev cX21_init : ByteArray := prog_3_method_1_code
def yX21_init : MethodName := ⟨RX21, "<init>", "(LTemplateEngine$Data;I)V"⟩
def dkwX21_init_0 : List UInt8 := [42, 183, 0, 1, 42, 43, 181, 0, 7, 42, 28, 181, 0, 13, 177]
abbrev dktX21_init_0 : List UInt8 := dkwX21_init_0 ++ []
theorem dksX21_init_0 : cX21_init.data.toList.drop 0 = dktX21_init_0 := by decide +kernel
theorem dX21_init_0 : decode cX21_init 0 = .ok (.aload_n 0, 1) := dk_42 (dk_at dksX21_init_0 0 rfl rfl)
theorem dX21_init_1 : decode cX21_init 1 = .ok (.invokespecial 1, 3) := dk_183 0 1 (dk_at dksX21_init_0 1 rfl rfl)
theorem dX21_init_4 : decode cX21_init 4 = .ok (.aload_n 0, 1) := dk_42 (dk_at dksX21_init_0 4 rfl rfl)
theorem dX21_init_5 : decode cX21_init 5 = .ok (.aload_n 1, 1) := dk_43 (dk_at dksX21_init_0 5 rfl rfl)
theorem dX21_init_6 : decode cX21_init 6 = .ok (.putfield 7, 3) := dk_181 0 7 (dk_at dksX21_init_0 6 rfl rfl)
theorem dX21_init_9 : decode cX21_init 9 = .ok (.aload_n 0, 1) := dk_42 (dk_at dksX21_init_0 9 rfl rfl)
theorem dX21_init_10 : decode cX21_init 10 = .ok (.iload_n 2, 1) := dk_28 (dk_at dksX21_init_0 10 rfl rfl)
theorem dX21_init_11 : decode cX21_init 11 = .ok (.putfield 13, 3) := dk_181 0 13 (dk_at dksX21_init_0 11 rfl rfl)
theorem dX21_init_14 : decode cX21_init 14 = .ok (.return_, 1) := dk_177 (dk_at dksX21_init_0 14 rfl rfl)
abbrev cX21_size : ByteArray := prog_3_method_3_code
def yX21_size : MethodName := ⟨RX21, "size", "()I"⟩
theorem dX21_size_0 : decode cX21_size 0 = .ok (.aload_n 0, 1) := by decide +kernel
theorem dX21_size_1 : decode cX21_size 1 = .ok (.getfield 13, 3) := by decide +kernel
theorem dX21_size_4 : decode cX21_size 4 = .ok (.ireturn, 1) := by decide +kernel
abbrev cX21_isFalse : ByteArray := prog_3_method_4_code
def yX21_isFalse : MethodName := ⟨RX21, "isFalse", "()Z"⟩
def dkwX21_isFalse_0 : List UInt8 := [42, 180, 0, 13, 154, 0, 7, 4, 167, 0, 4, 3, 172]
abbrev dktX21_isFalse_0 : List UInt8 := dkwX21_isFalse_0 ++ []
theorem dksX21_isFalse_0 : cX21_isFalse.data.toList.drop 0 = dktX21_isFalse_0 := by decide +kernel
theorem dX21_isFalse_0 : decode cX21_isFalse 0 = .ok (.aload_n 0, 1) := dk_42 (dk_at dksX21_isFalse_0 0 rfl rfl)
theorem dX21_isFalse_1 : decode cX21_isFalse 1 = .ok (.getfield 13, 3) := dk_180 0 13 (dk_at dksX21_isFalse_0 1 rfl rfl)
theorem dX21_isFalse_4 : decode cX21_isFalse 4 = .ok (.ifCond .ne 7, 3) := dk_154 0 7 (dk_at dksX21_isFalse_0 4 rfl rfl)
theorem dX21_isFalse_7 : decode cX21_isFalse 7 = .ok (.iconst 1, 1) := dk_4 (dk_at dksX21_isFalse_0 7 rfl rfl)
theorem dX21_isFalse_8 : decode cX21_isFalse 8 = .ok (.goto 4, 3) := dk_167 0 4 (dk_at dksX21_isFalse_0 8 rfl rfl)
theorem dX21_isFalse_11 : decode cX21_isFalse 11 = .ok (.iconst 0, 1) := dk_3 (dk_at dksX21_isFalse_0 11 rfl rfl)
theorem dX21_isFalse_12 : decode cX21_isFalse 12 = .ok (.ireturn, 1) := dk_172 (dk_at dksX21_isFalse_0 12 rfl rfl)
theorem q119 : (Jvm.Cond.initialized "TemplateEngine$Capitals") ∈ lw_all := lw_g (lw_at lw_m1 48 rfl) rfl
theorem q658 : (Jvm.Cond.selects "TemplateEngine$Capitals" ({ cls := "java/lang/Object", name := "getClass", desc := "()Ljava/lang/Class;" } : Jvm.MethodName) ({ cls := "java/lang/Object", name := "getClass", desc := "()Ljava/lang/Class;" } : Jvm.MethodName)) ∈ lw_all := lw_g (lw_at lw_m3 107 rfl) rfl
theorem q883 : (Jvm.Cond.selects "TemplateEngine$Capitals" ({ cls := "TemplateEngine$Data", name := "kind", desc := "()I" } : Jvm.MethodName) ({ cls := "TemplateEngine$Capitals", name := "kind", desc := "()I" } : Jvm.MethodName)) ∈ lw_all := lw_g (lw_at lw_m4 92 rfl) rfl
theorem q884 : (Jvm.Cond.instanceMethod ({ cls := "TemplateEngine$Capitals", name := "kind", desc := "()I" } : Jvm.MethodName)) ∈ lw_all := lw_g (lw_at lw_m4 93 rfl) rfl
theorem q885 : (Jvm.Cond.code ({ cls := "TemplateEngine$Capitals", name := "kind", desc := "()I" } : Jvm.MethodName) prog_3_method_2_code (1 : Nat) (Option.some Jvm.ClassFile.FieldType.int)) ∈ lw_all := lw_g (lw_at lw_m4 94 rfl) rfl
theorem q901 : (Jvm.Cond.selects "TemplateEngine$Capitals" ({ cls := "TemplateEngine$Data", name := "contains", desc := "(LTemplateEngine$Data;I)Z" } : Jvm.MethodName) ({ cls := "TemplateEngine$Data", name := "contains", desc := "(LTemplateEngine$Data;I)Z" } : Jvm.MethodName)) ∈ lw_all := lw_g (lw_at lw_m4 110 rfl) rfl
theorem q910 : (Jvm.Cond.selects "TemplateEngine$Capitals" ({ cls := "TemplateEngine$Data", name := "turns", desc := "()I" } : Jvm.MethodName) ({ cls := "TemplateEngine$Data", name := "turns", desc := "()I" } : Jvm.MethodName)) ∈ lw_all := lw_g (lw_at lw_m4 119 rfl) rfl
theorem q921 : (Jvm.Cond.selects "TemplateEngine$Capitals" ({ cls := "TemplateEngine$Data", name := "element", desc := "(I)LTemplateEngine$Data;" } : Jvm.MethodName) ({ cls := "TemplateEngine$Data", name := "element", desc := "(I)LTemplateEngine$Data;" } : Jvm.MethodName)) ∈ lw_all := lw_g (lw_at lw_m4 130 rfl) rfl
theorem q1530 : (Jvm.Cond.selects "TemplateEngine$Capitals" ({ cls := "TemplateEngine$Data", name := "member", desc := "(Ljava/lang/String;)LTemplateEngine$Data;" } : Jvm.MethodName) ({ cls := "TemplateEngine$Data", name := "member", desc := "(Ljava/lang/String;)LTemplateEngine$Data;" } : Jvm.MethodName)) ∈ lw_all := lw_g (lw_at lw_m7 19 rfl) rfl
theorem q1574 : (Jvm.Cond.selects "TemplateEngine$Capitals" ({ cls := "TemplateEngine$Data", name := "write", desc := "(LTemplateEngine$Output;)V" } : Jvm.MethodName) ({ cls := "TemplateEngine$Capitals", name := "write", desc := "(LTemplateEngine$Output;)V" } : Jvm.MethodName)) ∈ lw_all := lw_g (lw_at lw_m7 63 rfl) rfl
theorem q1575 : (Jvm.Cond.instanceMethod ({ cls := "TemplateEngine$Capitals", name := "write", desc := "(LTemplateEngine$Output;)V" } : Jvm.MethodName)) ∈ lw_all := lw_g (lw_at lw_m7 64 rfl) rfl
theorem q1576 : (Jvm.Cond.code ({ cls := "TemplateEngine$Capitals", name := "write", desc := "(LTemplateEngine$Output;)V" } : Jvm.MethodName) prog_3_method_5_code (3 : Nat) (Option.none : Option Jvm.ClassFile.FieldType)) ∈ lw_all := lw_g (lw_at lw_m7 65 rfl) rfl
theorem q1577 : (Jvm.Cond.methodLink "TemplateEngine$Capitals" (17 : Nat) ({ cls := "TemplateEngine$Output", name := "length", desc := "()I" } : Jvm.MethodName)) ∈ lw_all := lw_g (lw_at lw_m7 66 rfl) rfl
theorem q1578 : (Jvm.Cond.methodLink "TemplateEngine$Capitals" (23 : Nat) ({ cls := "TemplateEngine$Data", name := "write", desc := "(LTemplateEngine$Output;)V" } : Jvm.MethodName)) ∈ lw_all := lw_g (lw_at lw_m7 67 rfl) rfl
theorem q1608 : (Jvm.Cond.methodLink "TemplateEngine$Capitals" (27 : Nat) ({ cls := "TemplateEngine$Output", name := "capitals", desc := "(I)V" } : Jvm.MethodName)) ∈ lw_all := lw_g (lw_at lw_m7 97 rfl) rfl
theorem q1638 : (Jvm.Cond.instantiable "TemplateEngine$Capitals" (3 : Nat)) ∈ lw_all := lw_g (lw_at lw_m7 127 rfl) rfl
theorem q1642 : (Jvm.Cond.instanceMethod ({ cls := "TemplateEngine$Capitals", name := "<init>", desc := "(LTemplateEngine$Data;I)V" } : Jvm.MethodName)) ∈ lw_all := lw_g (lw_at lw_m7 131 rfl) rfl
theorem q1643 : (Jvm.Cond.code ({ cls := "TemplateEngine$Capitals", name := "<init>", desc := "(LTemplateEngine$Data;I)V" } : Jvm.MethodName) prog_3_method_1_code (3 : Nat) (Option.none : Option Jvm.ClassFile.FieldType)) ∈ lw_all := lw_g (lw_at lw_m7 132 rfl) rfl
theorem q1644 : (Jvm.Cond.methodLinkNest "TemplateEngine$Capitals" (1 : Nat) ({ cls := "TemplateEngine$Data", name := "<init>", desc := "()V" } : Jvm.MethodName) "TemplateEngine") ∈ lw_tbl := lw_at lw_m7 133 rfl
theorem q1645 : (Jvm.Cond.fieldLink "TemplateEngine$Capitals" (7 : Nat) "TemplateEngine$Capitals" "of" "LTemplateEngine$Data;") ∈ lw_all := lw_g (lw_at lw_m7 134 rfl) rfl
theorem q1646 : (Jvm.Cond.fieldLink "TemplateEngine$Capitals" (13 : Nat) "TemplateEngine$Capitals" "size" "I") ∈ lw_all := lw_g (lw_at lw_m7 135 rfl) rfl
theorem q1647 : (Jvm.Cond.laysFinal "TemplateEngine$Capitals" "TemplateEngine$Capitals" "of" "LTemplateEngine$Data;") ∈ lw_all := lw_g (lw_at lw_m7 136 rfl) rfl
theorem q1648 : (Jvm.Cond.soleField "TemplateEngine$Capitals" "of") ∈ lw_all := lw_g (lw_at lw_m7 137 rfl) rfl
theorem q1649 : (Jvm.Cond.laysFinal "TemplateEngine$Capitals" "TemplateEngine$Capitals" "size" "I") ∈ lw_all := lw_g (lw_at lw_m7 138 rfl) rfl
theorem q1650 : (Jvm.Cond.soleField "TemplateEngine$Capitals" "size") ∈ lw_all := lw_g (lw_at lw_m7 139 rfl) rfl
theorem q1651 : (Jvm.Cond.lays "TemplateEngine$Capitals" "TemplateEngine$Data" "asked" "I") ∈ lw_all := lw_g (lw_at lw_m7 140 rfl) rfl
theorem q1652 : (Jvm.Cond.superclass "TemplateEngine$Capitals" "TemplateEngine$Data") ∈ lw_all := lw_g (lw_at lw_m7 141 rfl) rfl
theorem q1657 : (Jvm.Cond.selects "TemplateEngine$Capitals" ({ cls := "TemplateEngine$Data", name := "size", desc := "()I" } : Jvm.MethodName) ({ cls := "TemplateEngine$Capitals", name := "size", desc := "()I" } : Jvm.MethodName)) ∈ lw_all := lw_g (lw_at lw_m7 146 rfl) rfl
theorem q1658 : (Jvm.Cond.instanceMethod ({ cls := "TemplateEngine$Capitals", name := "size", desc := "()I" } : Jvm.MethodName)) ∈ lw_all := lw_g (lw_at lw_m7 147 rfl) rfl
theorem q1659 : (Jvm.Cond.code ({ cls := "TemplateEngine$Capitals", name := "size", desc := "()I" } : Jvm.MethodName) prog_3_method_3_code (1 : Nat) (Option.some Jvm.ClassFile.FieldType.int)) ∈ lw_all := lw_g (lw_at lw_m7 148 rfl) rfl
theorem q1679 : (Jvm.Cond.selects "TemplateEngine$Capitals" ({ cls := "TemplateEngine$Data", name := "isFalse", desc := "()Z" } : Jvm.MethodName) ({ cls := "TemplateEngine$Capitals", name := "isFalse", desc := "()Z" } : Jvm.MethodName)) ∈ lw_all := lw_g (lw_at lw_m7 168 rfl) rfl
theorem q1680 : (Jvm.Cond.instanceMethod ({ cls := "TemplateEngine$Capitals", name := "isFalse", desc := "()Z" } : Jvm.MethodName)) ∈ lw_all := lw_g (lw_at lw_m7 169 rfl) rfl
theorem q1681 : (Jvm.Cond.code ({ cls := "TemplateEngine$Capitals", name := "isFalse", desc := "()Z" } : Jvm.MethodName) prog_3_method_4_code (1 : Nat) (Option.some Jvm.ClassFile.FieldType.boolean)) ∈ lw_all := lw_g (lw_at lw_m7 170 rfl) rfl
theorem q2278 : (Jvm.Cond.castable "TemplateEngine$Capitals" "TemplateEngine$Data") ∈ lw_tbl := lw_at lw_m10 47 rfl
theorem q2316 : (Jvm.Cond.castable "TemplateEngine$Capitals" "java/lang/Object") ∈ lw_tbl := lw_at lw_m10 85 rfl
theorem in_X21 : ∀ w ∈ wsX210, w ∈ lw_all := lw_in wsX210 [1651, 1647, 1649] (by decide +kernel) (by decide +kernel)

theorem q1505 : (Jvm.Cond.interfaceMethod "TemplateEngine$Operand" "TemplateEngine$Operand" "value" "(LTemplateEngine$Context;I)LTemplateEngine$Data;") ∈ lw_tbl := lw_at lw_m6 234 rfl
set_option maxRecDepth 100000
theorem q1506 : (Jvm.Cond.declares ({ cls := "TemplateEngine$Operand", name := "value", desc := "(LTemplateEngine$Context;I)LTemplateEngine$Data;" } : Jvm.MethodName)) ∈ lw_tbl := lw_at lw_m6 235 rfl

theorem q1489 : (Jvm.Cond.interfaceMethod "TemplateEngine$Part" "TemplateEngine$Part" "render" "(LTemplateEngine$Rendering;LTemplateEngine$Context;I)V") ∈ lw_tbl := lw_at lw_m6 218 rfl
set_option maxRecDepth 100000
theorem q1490 : (Jvm.Cond.declares ({ cls := "TemplateEngine$Part", name := "render", desc := "(LTemplateEngine$Rendering;LTemplateEngine$Context;I)V" } : Jvm.MethodName)) ∈ lw_tbl := lw_at lw_m6 219 rfl
theorem q2284 : (Jvm.Cond.castable "TemplateEngine$Part" "java/lang/Object") ∈ lw_tbl := lw_at lw_m10 53 rfl

theorem q257 : (Jvm.Cond.sameMethod "[B" "java/lang/Object" "clone" "()Ljava/lang/Object;") ∈ lw_all := lw_g (lw_at lw_m1 186 rfl) rfl
set_option maxRecDepth 100000
theorem q260 : (Jvm.Cond.selects "[B" ({ cls := "[B", name := "clone", desc := "()Ljava/lang/Object;" } : Jvm.MethodName) ({ cls := "java/lang/Object", name := "clone", desc := "()Ljava/lang/Object;" } : Jvm.MethodName)) ∈ lw_all := lw_g (lw_at lw_m1 189 rfl) rfl
theorem q261 : (Jvm.Cond.castable "[B" "java/lang/Cloneable") ∈ lw_tbl := lw_at lw_m1 190 rfl
theorem q2322 : (Jvm.Cond.castable "[B" "java/lang/Object") ∈ lw_tbl := lw_at lw_m10 91 rfl

theorem q2327 : (Jvm.Cond.castable "[C" "java/lang/Object") ∈ lw_tbl := lw_at lw_m10 96 rfl
set_option maxRecDepth 100000

theorem q2328 : (Jvm.Cond.castable "[I" "java/lang/Object") ∈ lw_tbl := lw_at lw_m10 97 rfl
set_option maxRecDepth 100000

theorem q2329 : (Jvm.Cond.castable "[J" "java/lang/Object") ∈ lw_tbl := lw_at lw_m10 98 rfl
set_option maxRecDepth 100000

theorem q2325 : (Jvm.Cond.castable "[LTemplateEngine$Data;" "java/lang/Object") ∈ lw_tbl := lw_at lw_m10 94 rfl
set_option maxRecDepth 100000

theorem q2331 : (Jvm.Cond.castable "[LTemplateEngine$NumberData;" "java/lang/Object") ∈ lw_tbl := lw_at lw_m10 100 rfl
set_option maxRecDepth 100000

theorem q2324 : (Jvm.Cond.castable "[LTemplateEngine$Part;" "java/lang/Object") ∈ lw_tbl := lw_at lw_m10 93 rfl
set_option maxRecDepth 100000

theorem q2318 : (Jvm.Cond.sameMethod "[Ljava/lang/Object;" "java/lang/Object" "getClass" "()Ljava/lang/Class;") ∈ lw_all := lw_g (lw_at lw_m10 87 rfl) rfl
set_option maxRecDepth 100000
theorem q2319 : (Jvm.Cond.selects "[Ljava/lang/Object;" ({ cls := "java/lang/Object", name := "getClass", desc := "()Ljava/lang/Class;" } : Jvm.MethodName) ({ cls := "java/lang/Object", name := "getClass", desc := "()Ljava/lang/Class;" } : Jvm.MethodName)) ∈ lw_all := lw_g (lw_at lw_m10 88 rfl) rfl
theorem q2321 : (Jvm.Cond.castable "[Ljava/lang/Object;" "java/lang/Object") ∈ lw_tbl := lw_at lw_m10 90 rfl

theorem q2326 : (Jvm.Cond.castable "[Ljava/lang/String;" "java/lang/Object") ∈ lw_tbl := lw_at lw_m10 95 rfl
set_option maxRecDepth 100000

theorem q2330 : (Jvm.Cond.castable "[Z" "java/lang/Object") ∈ lw_tbl := lw_at lw_m10 99 rfl
set_option maxRecDepth 100000

theorem q2323 : (Jvm.Cond.castable "[[LTemplateEngine$Part;" "java/lang/Object") ∈ lw_tbl := lw_at lw_m10 92 rfl
set_option maxRecDepth 100000

theorem q90 : (Jvm.Cond.initialized "java/lang/Number") ∈ lw_all := lw_g (lw_at lw_m1 19 rfl) rfl
set_option maxRecDepth 100000

theorem q87 : (Jvm.Cond.initialized "java/lang/System") ∈ lw_all := lw_g (lw_at lw_m1 16 rfl) rfl
set_option maxRecDepth 100000
theorem q267 : (Jvm.Cond.static ({ cls := "java/lang/System", name := "arraycopy", desc := "(Ljava/lang/Object;ILjava/lang/Object;II)V" } : Jvm.MethodName)) ∈ lw_all := lw_g (lw_at lw_m1 196 rfl) rfl
theorem q268 : (Jvm.Cond.native ({ cls := "java/lang/System", name := "arraycopy", desc := "(Ljava/lang/Object;ILjava/lang/Object;II)V" } : Jvm.MethodName)) ∈ lw_all := lw_g (lw_at lw_m1 197 rfl) rfl

theorem q1264 : (Jvm.Cond.interfaceMethod "jdk/internal/access/JavaLangAccess" "jdk/internal/access/JavaLangAccess" "getUTF16Char" "([BI)C") ∈ lw_tbl := lw_at lw_m5 233 rfl
set_option maxRecDepth 100000
theorem q1265 : (Jvm.Cond.declares ({ cls := "jdk/internal/access/JavaLangAccess", name := "getUTF16Char", desc := "([BI)C" } : Jvm.MethodName)) ∈ lw_tbl := lw_at lw_m5 234 rfl

theorem q141 : (Jvm.Cond.arrayOver (Jvm.ClassFile.FieldType.object "java/lang/Object")) ∈ lw_tbl := lw_at lw_m1 70 rfl
set_option maxRecDepth 100000
theorem q221 : (Jvm.Cond.arrayClass Jvm.ClassFile.FieldType.byte) ∈ lw_all := lw_g (lw_at lw_m1 150 rfl) rfl
theorem q476 : (Jvm.Cond.arrayOver (Jvm.ClassFile.FieldType.array (Jvm.ClassFile.FieldType.object "TemplateEngine$Part"))) ∈ lw_tbl := lw_at lw_m2 165 rfl
theorem q477 : (Jvm.Cond.arrayOver (Jvm.ClassFile.FieldType.object "TemplateEngine$Part")) ∈ lw_tbl := lw_at lw_m2 166 rfl
theorem q798 : (Jvm.Cond.arrayOver (Jvm.ClassFile.FieldType.object "TemplateEngine$Data")) ∈ lw_tbl := lw_at lw_m4 7 rfl
theorem q828 : (Jvm.Cond.arrayOver (Jvm.ClassFile.FieldType.object "java/lang/String")) ∈ lw_tbl := lw_at lw_m4 37 rfl
theorem q1944 : (Jvm.Cond.arrayClass Jvm.ClassFile.FieldType.char) ∈ lw_all := lw_g (lw_at lw_m8 193 rfl) rfl
theorem q1945 : (Jvm.Cond.arrayClass Jvm.ClassFile.FieldType.int) ∈ lw_all := lw_g (lw_at lw_m8 194 rfl) rfl
theorem q1946 : (Jvm.Cond.arrayClass Jvm.ClassFile.FieldType.long) ∈ lw_all := lw_g (lw_at lw_m8 195 rfl) rfl
theorem q1947 : (Jvm.Cond.arrayClass Jvm.ClassFile.FieldType.boolean) ∈ lw_all := lw_g (lw_at lw_m8 196 rfl) rfl
theorem q2332 : (Jvm.Cond.arrayClass Jvm.ClassFile.FieldType.short) ∈ lw_all := lw_g (lw_at lw_m10 101 rfl) rfl
